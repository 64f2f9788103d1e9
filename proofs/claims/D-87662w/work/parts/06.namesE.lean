/-! VeilMintModel -/
set_option maxRecDepth 100000
def RX10 : String := "VeilMintModel"
def TX10 : u_T := fun k => match k with
  | 0 => ("VeilMintModel", "thrown", "I", false)
  | 1 => ("VeilMintModel", "wide", "[I", true)
  | 2 => ("VeilMintModel", "fold", "[J", true)
  | 3 => ("VeilMintModel", "base", "[I", true)
  | 4 => ("VeilMintModel", "result", "[I", true)
  | 5 => ("VeilMintModel", "left", "[I", true)
  | 6 => ("VeilMintModel", "right", "[I", true)
  | 7 => ("VeilMintModel", "one", "[I", true)
  | 8 => ("VeilMintModel", "two", "[I", true)
  | 9 => ("VeilMintModel", "p", "LVeilMintModel$Mod;", true)
  | 10 => ("VeilMintModel", "q", "LVeilMintModel$Mod;", true)
  | 11 => ("VeilMintModel", "g", "LVeilMintModel$Spot;", true)
  | 12 => ("VeilMintModel", "walk", "LVeilMintModel$Spot;", true)
  | 13 => ("VeilMintModel", "slope", "[I", true)
  | 14 => ("VeilMintModel", "work", "[I", true)
  | 15 => ("VeilMintModel", "more", "[I", true)
  | 16 => ("VeilMintModel", "rootPower", "[I", true)
  | 17 => ("VeilMintModel", "overX", "[I", true)
  | 18 => ("VeilMintModel", "overY", "[I", true)
  | 19 => ("VeilMintModel", "under", "[I", true)
  | 20 => ("VeilMintModel", "one1", "[I", true)
  | 21 => ("VeilMintModel", "two2", "[I", true)
  | 22 => ("VeilMintModel", "three", "[I", true)
  | 23 => ("VeilMintModel", "four", "[I", true)
  | 24 => ("VeilMintModel", "square", "[I", true)
  | 25 => ("VeilMintModel", "said", "[B", true)
  | 26 => ("VeilMintModel", "saidMany", "I", false)
  | 27 => ("VeilMintModel", "digest", "[B", true)
  | 28 => ("VeilMintModel", "chain", "[I", true)
  | 29 => ("VeilMintModel", "schedule", "[I", true)
  | 30 => ("VeilMintModel", "wideChain", "[J", true)
  | 31 => ("VeilMintModel", "wideSchedule", "[J", true)
  | 32 => ("VeilMintModel", "message", "[B", true)
  | 33 => ("VeilMintModel", "messageMany", "I", false)
  | 34 => ("VeilMintModel", "tag", "[B", true)
  | 35 => ("VeilMintModel", "tagMany", "I", false)
  | 36 => ("VeilMintModel", "first", "[B", true)
  | 37 => ("VeilMintModel", "mixed", "[B", true)
  | 38 => ("VeilMintModel", "uniform", "[B", true)
  | 39 => ("VeilMintModel", "mapped", "LVeilMintModel$Spot;", true)
  | 40 => ("VeilMintModel", "u", "[I", true)
  | 41 => ("VeilMintModel", "zu", "[I", true)
  | 42 => ("VeilMintModel", "t", "[I", true)
  | 43 => ("VeilMintModel", "other", "[I", true)
  | 44 => ("VeilMintModel", "minusThree", "[I", true)
  | 45 => ("VeilMintModel", "minusTwelve", "[I", true)
  | 46 => ("VeilMintModel", "numberOne", "[I", true)
  | 47 => ("VeilMintModel", "numberTwo", "[I", true)
  | 48 => ("VeilMintModel", "asked", "[LVeilMintModel$Spot;", true)
  | 49 => ("VeilMintModel", "given", "[LVeilMintModel$Spot;", true)
  | 50 => ("VeilMintModel", "m", "LVeilMintModel$Spot;", true)
  | 51 => ("VeilMintModel", "z", "LVeilMintModel$Spot;", true)
  | 52 => ("VeilMintModel", "pointT", "LVeilMintModel$Spot;", true)
  | 53 => ("VeilMintModel", "pointU", "LVeilMintModel$Spot;", true)
  | 54 => ("VeilMintModel", "part", "LVeilMintModel$Spot;", true)
  | 55 => ("VeilMintModel", "seed", "[B", true)
  | 56 => ("VeilMintModel", "some", "[B", true)
  | 57 => ("VeilMintModel", "scalar", "[I", true)
  | 58 => ("VeilMintModel", "proofC", "[I", true)
  | 59 => ("VeilMintModel", "proofS", "[I", true)
  | 60 => ("VeilMintModel", "shown", "[I", true)
  | 61 => ("VeilMintModel", "types", "[I", true)
  | 62 => ("VeilMintModel", "isLive", "[Z", true)
  | 63 => ("VeilMintModel", "ids", "[B", true)
  | 64 => ("VeilMintModel", "secrets", "[[I", true)
  | 65 => ("VeilMintModel", "publics", "[LVeilMintModel$Spot;", true)
  | 66 => ("VeilMintModel", "moduli", "[LVeilMintModel$Mod;", true)
  | 67 => ("VeilMintModel", "exponents", "[I", true)
  | 68 => ("VeilMintModel", "lengths", "[I", true)
  | 69 => ("VeilMintModel", "salts", "[I", true)
  | 70 => ("VeilMintModel", "keys", "I", false)
  | 71 => ("VeilMintModel", "askedKey", "[I", true)
  | 72 => ("VeilMintModel", "isOpen", "[Z", true)
  | 73 => ("VeilMintModel", "inputs", "[B", true)
  | 74 => ("VeilMintModel", "blinds", "[[I", true)
  | 75 => ("VeilMintModel", "askings", "I", false)
  | 76 => ("VeilMintModel", "disk", "[B", true)
  | 77 => ("VeilMintModel", "written", "I", false)
  | 78 => ("VeilMintModel", "fuse", "I", false)
  | 79 => ("VeilMintModel", "redeemed", "I", false)
  | 80 => ("VeilMintModel", "isDown", "Z", false)
  | 81 => ("VeilMintModel", "tape", "[B", true)
  | 82 => ("VeilMintModel", "taped", "I", false)
  | 83 => ("VeilMintModel", "out", "[B", true)
  | 84 => ("VeilMintModel", "outMany", "I", false)
  | 85 => ("VeilMintModel", "encoded", "[B", true)
  | 86 => ("VeilMintModel", "mask", "[B", true)
  | 87 => ("VeilMintModel", "inner", "[B", true)
  | 88 => ("VeilMintModel", "number", "[I", true)
  | 89 => ("VeilMintModel", "blinded", "[I", true)
  | 90 => ("VeilMintModel", "checked", "[I", true)
  | 91 => ("VeilMintModel", "little", "[I", true)
  | 92 => ("VeilMintModel", "five", "[I", true)
  | 93 => ("VeilMintModel", "point", "LVeilMintModel$Spot;", true)
  | 94 => ("VeilMintModel", "nonce", "[I", true)
  | _ => ("VeilMintModel", "outputs", "[B", true)
def tyX10 : Nat → FieldType := fun k => match k with
  | 0 => .int
  | 1 => .array .int
  | 2 => .array .long
  | 3 => .array .int
  | 4 => .array .int
  | 5 => .array .int
  | 6 => .array .int
  | 7 => .array .int
  | 8 => .array .int
  | 9 => .object "VeilMintModel$Mod"
  | 10 => .object "VeilMintModel$Mod"
  | 11 => .object "VeilMintModel$Spot"
  | 12 => .object "VeilMintModel$Spot"
  | 13 => .array .int
  | 14 => .array .int
  | 15 => .array .int
  | 16 => .array .int
  | 17 => .array .int
  | 18 => .array .int
  | 19 => .array .int
  | 20 => .array .int
  | 21 => .array .int
  | 22 => .array .int
  | 23 => .array .int
  | 24 => .array .int
  | 25 => .array .byte
  | 26 => .int
  | 27 => .array .byte
  | 28 => .array .int
  | 29 => .array .int
  | 30 => .array .long
  | 31 => .array .long
  | 32 => .array .byte
  | 33 => .int
  | 34 => .array .byte
  | 35 => .int
  | 36 => .array .byte
  | 37 => .array .byte
  | 38 => .array .byte
  | 39 => .object "VeilMintModel$Spot"
  | 40 => .array .int
  | 41 => .array .int
  | 42 => .array .int
  | 43 => .array .int
  | 44 => .array .int
  | 45 => .array .int
  | 46 => .array .int
  | 47 => .array .int
  | 48 => .array (.object "VeilMintModel$Spot")
  | 49 => .array (.object "VeilMintModel$Spot")
  | 50 => .object "VeilMintModel$Spot"
  | 51 => .object "VeilMintModel$Spot"
  | 52 => .object "VeilMintModel$Spot"
  | 53 => .object "VeilMintModel$Spot"
  | 54 => .object "VeilMintModel$Spot"
  | 55 => .array .byte
  | 56 => .array .byte
  | 57 => .array .int
  | 58 => .array .int
  | 59 => .array .int
  | 60 => .array .int
  | 61 => .array .int
  | 62 => .array .boolean
  | 63 => .array .byte
  | 64 => .array (.array .int)
  | 65 => .array (.object "VeilMintModel$Spot")
  | 66 => .array (.object "VeilMintModel$Mod")
  | 67 => .array .int
  | 68 => .array .int
  | 69 => .array .int
  | 70 => .int
  | 71 => .array .int
  | 72 => .array .boolean
  | 73 => .array .byte
  | 74 => .array (.array .int)
  | 75 => .int
  | 76 => .array .byte
  | 77 => .int
  | 78 => .int
  | 79 => .int
  | 80 => .boolean
  | 81 => .array .byte
  | 82 => .int
  | 83 => .array .byte
  | 84 => .int
  | 85 => .array .byte
  | 86 => .array .byte
  | 87 => .array .byte
  | 88 => .array .int
  | 89 => .array .int
  | 90 => .array .int
  | 91 => .array .int
  | 92 => .array .int
  | 93 => .object "VeilMintModel$Spot"
  | 94 => .array .int
  | _ => .array .byte
abbrev wsX100 : List Cond := u_ws RX10 TX10 96
set_option maxRecDepth 100000 in
theorem nmX10 : ∀ a, a < 96 → ∀ b, b < 96 → a ≠ b → (TX10 a).2.1 ≠ (TX10 b).2.1 := by decide +kernel
set_option maxRecDepth 100000 in
theorem tyX10_ok : ∀ k, k < 96 → parseFieldDescriptor (TX10 k).2.2.1 = some (tyX10 k) := by decide +kernel
abbrev cX10_thrown : ByteArray := prog_15_method_1_code
def yX10_thrown : MethodName := ⟨RX10, "thrown", "()I"⟩
theorem dX10_thrown_0 : decode cX10_thrown 0 = .ok (.aload_n 0, 1) := by decide +kernel
theorem dX10_thrown_1 : decode cX10_thrown 1 = .ok (.getfield 1, 3) := by decide +kernel
theorem dX10_thrown_4 : decode cX10_thrown 4 = .ok (.ireturn, 1) := by decide +kernel
abbrev cX10_init : ByteArray := prog_15_method_61_code
def yX10_init : MethodName := ⟨RX10, "<init>", "()V"⟩
theorem dX10_init_0 : decode cX10_init 0 = .ok (.aload_n 0, 1) := by decide +kernel
theorem dX10_init_1 : decode cX10_init 1 = .ok (.invokespecial 485, 3) := by decide +kernel
theorem dX10_init_4 : decode cX10_init 4 = .ok (.aload_n 0, 1) := by decide +kernel
theorem dX10_init_5 : decode cX10_init 5 = .ok (.sipush 130, 3) := by decide +kernel
theorem dX10_init_8 : decode cX10_init 8 = .ok (.newarray .int, 2) := by decide +kernel
theorem dX10_init_10 : decode cX10_init 10 = .ok (.putfield 36, 3) := by decide +kernel
theorem dX10_init_13 : decode cX10_init 13 = .ok (.aload_n 0, 1) := by decide +kernel
theorem dX10_init_14 : decode cX10_init 14 = .ok (.bipush 16, 2) := by decide +kernel
theorem dX10_init_16 : decode cX10_init 16 = .ok (.newarray .long, 2) := by decide +kernel
theorem dX10_init_18 : decode cX10_init 18 = .ok (.putfield 73, 3) := by decide +kernel
theorem dX10_init_21 : decode cX10_init 21 = .ok (.aload_n 0, 1) := by decide +kernel
theorem dX10_init_22 : decode cX10_init 22 = .ok (.bipush 64, 2) := by decide +kernel
theorem dX10_init_24 : decode cX10_init 24 = .ok (.newarray .int, 2) := by decide +kernel
theorem dX10_init_26 : decode cX10_init 26 = .ok (.putfield 88, 3) := by decide +kernel
theorem dX10_init_29 : decode cX10_init 29 = .ok (.aload_n 0, 1) := by decide +kernel
theorem dX10_init_30 : decode cX10_init 30 = .ok (.bipush 64, 2) := by decide +kernel
theorem dX10_init_32 : decode cX10_init 32 = .ok (.newarray .int, 2) := by decide +kernel
theorem dX10_init_34 : decode cX10_init 34 = .ok (.putfield 95, 3) := by decide +kernel
theorem dX10_init_37 : decode cX10_init 37 = .ok (.aload_n 0, 1) := by decide +kernel
theorem dX10_init_38 : decode cX10_init 38 = .ok (.bipush 64, 2) := by decide +kernel
theorem dX10_init_40 : decode cX10_init 40 = .ok (.newarray .int, 2) := by decide +kernel
theorem dX10_init_42 : decode cX10_init 42 = .ok (.putfield 110, 3) := by decide +kernel
theorem dX10_init_45 : decode cX10_init 45 = .ok (.aload_n 0, 1) := by decide +kernel
theorem dX10_init_46 : decode cX10_init 46 = .ok (.bipush 64, 2) := by decide +kernel
theorem dX10_init_48 : decode cX10_init 48 = .ok (.newarray .int, 2) := by decide +kernel
theorem dX10_init_50 : decode cX10_init 50 = .ok (.putfield 113, 3) := by decide +kernel
theorem dX10_init_53 : decode cX10_init 53 = .ok (.aload_n 0, 1) := by decide +kernel
theorem dX10_init_54 : decode cX10_init 54 = .ok (.bipush 64, 2) := by decide +kernel
theorem dX10_init_56 : decode cX10_init 56 = .ok (.newarray .int, 2) := by decide +kernel
theorem dX10_init_58 : decode cX10_init 58 = .ok (.putfield 116, 3) := by decide +kernel
theorem dX10_init_61 : decode cX10_init 61 = .ok (.aload_n 0, 1) := by decide +kernel
theorem dX10_init_62 : decode cX10_init 62 = .ok (.bipush 64, 2) := by decide +kernel
theorem dX10_init_64 : decode cX10_init 64 = .ok (.newarray .int, 2) := by decide +kernel
theorem dX10_init_66 : decode cX10_init 66 = .ok (.putfield 119, 3) := by decide +kernel
theorem dX10_init_69 : decode cX10_init 69 = .ok (.aload_n 0, 1) := by decide +kernel
theorem dX10_init_70 : decode cX10_init 70 = .ok (.new 14, 3) := by decide +kernel
theorem dX10_init_73 : decode cX10_init 73 = .ok (.dup, 1) := by decide +kernel
theorem dX10_init_74 : decode cX10_init 74 = .ok (.invokespecial 490, 3) := by decide +kernel
theorem dX10_init_77 : decode cX10_init 77 = .ok (.putfield 61, 3) := by decide +kernel
theorem dX10_init_80 : decode cX10_init 80 = .ok (.aload_n 0, 1) := by decide +kernel
theorem dX10_init_81 : decode cX10_init 81 = .ok (.new 14, 3) := by decide +kernel
theorem dX10_init_84 : decode cX10_init 84 = .ok (.dup, 1) := by decide +kernel
theorem dX10_init_85 : decode cX10_init 85 = .ok (.invokespecial 490, 3) := by decide +kernel
theorem dX10_init_88 : decode cX10_init 88 = .ok (.putfield 360, 3) := by decide +kernel
theorem dX10_init_91 : decode cX10_init 91 = .ok (.aload_n 0, 1) := by decide +kernel
theorem dX10_init_92 : decode cX10_init 92 = .ok (.new 137, 3) := by decide +kernel
theorem dX10_init_95 : decode cX10_init 95 = .ok (.dup, 1) := by decide +kernel
theorem dX10_init_96 : decode cX10_init 96 = .ok (.invokespecial 491, 3) := by decide +kernel
theorem dX10_init_99 : decode cX10_init 99 = .ok (.putfield 465, 3) := by decide +kernel
theorem dX10_init_102 : decode cX10_init 102 = .ok (.aload_n 0, 1) := by decide +kernel
theorem dX10_init_103 : decode cX10_init 103 = .ok (.new 137, 3) := by decide +kernel
theorem dX10_init_106 : decode cX10_init 106 = .ok (.dup, 1) := by decide +kernel
theorem dX10_init_107 : decode cX10_init 107 = .ok (.invokespecial 491, 3) := by decide +kernel
theorem dX10_init_110 : decode cX10_init 110 = .ok (.putfield 192, 3) := by decide +kernel
theorem dX10_init_113 : decode cX10_init 113 = .ok (.aload_n 0, 1) := by decide +kernel
theorem dX10_init_114 : decode cX10_init 114 = .ok (.bipush 12, 2) := by decide +kernel
theorem dX10_init_116 : decode cX10_init 116 = .ok (.newarray .int, 2) := by decide +kernel
theorem dX10_init_118 : decode cX10_init 118 = .ok (.putfield 158, 3) := by decide +kernel
theorem dX10_init_121 : decode cX10_init 121 = .ok (.aload_n 0, 1) := by decide +kernel
theorem dX10_init_122 : decode cX10_init 122 = .ok (.bipush 12, 2) := by decide +kernel
theorem dX10_init_124 : decode cX10_init 124 = .ok (.newarray .int, 2) := by decide +kernel
theorem dX10_init_126 : decode cX10_init 126 = .ok (.putfield 152, 3) := by decide +kernel
theorem dX10_init_129 : decode cX10_init 129 = .ok (.aload_n 0, 1) := by decide +kernel
theorem dX10_init_130 : decode cX10_init 130 = .ok (.bipush 12, 2) := by decide +kernel
theorem dX10_init_132 : decode cX10_init 132 = .ok (.newarray .int, 2) := by decide +kernel
theorem dX10_init_134 : decode cX10_init 134 = .ok (.putfield 165, 3) := by decide +kernel
theorem dX10_init_137 : decode cX10_init 137 = .ok (.aload_n 0, 1) := by decide +kernel
theorem dX10_init_138 : decode cX10_init 138 = .ok (.bipush 12, 2) := by decide +kernel
theorem dX10_init_140 : decode cX10_init 140 = .ok (.newarray .int, 2) := by decide +kernel
theorem dX10_init_142 : decode cX10_init 142 = .ok (.putfield 210, 3) := by decide +kernel
theorem dX10_init_145 : decode cX10_init 145 = .ok (.aload_n 0, 1) := by decide +kernel
theorem dX10_init_146 : decode cX10_init 146 = .ok (.bipush 12, 2) := by decide +kernel
theorem dX10_init_148 : decode cX10_init 148 = .ok (.newarray .int, 2) := by decide +kernel
theorem dX10_init_150 : decode cX10_init 150 = .ok (.putfield 174, 3) := by decide +kernel
theorem dX10_init_153 : decode cX10_init 153 = .ok (.aload_n 0, 1) := by decide +kernel
theorem dX10_init_154 : decode cX10_init 154 = .ok (.bipush 12, 2) := by decide +kernel
theorem dX10_init_156 : decode cX10_init 156 = .ok (.newarray .int, 2) := by decide +kernel
theorem dX10_init_158 : decode cX10_init 158 = .ok (.putfield 180, 3) := by decide +kernel
theorem dX10_init_161 : decode cX10_init 161 = .ok (.aload_n 0, 1) := by decide +kernel
theorem dX10_init_162 : decode cX10_init 162 = .ok (.bipush 12, 2) := by decide +kernel
theorem dX10_init_164 : decode cX10_init 164 = .ok (.newarray .int, 2) := by decide +kernel
theorem dX10_init_166 : decode cX10_init 166 = .ok (.putfield 168, 3) := by decide +kernel
theorem dX10_init_169 : decode cX10_init 169 = .ok (.aload_n 0, 1) := by decide +kernel
theorem dX10_init_170 : decode cX10_init 170 = .ok (.bipush 12, 2) := by decide +kernel
theorem dX10_init_172 : decode cX10_init 172 = .ok (.newarray .int, 2) := by decide +kernel
theorem dX10_init_174 : decode cX10_init 174 = .ok (.putfield 171, 3) := by decide +kernel
theorem dX10_init_177 : decode cX10_init 177 = .ok (.aload_n 0, 1) := by decide +kernel
theorem dX10_init_178 : decode cX10_init 178 = .ok (.bipush 12, 2) := by decide +kernel
theorem dX10_init_180 : decode cX10_init 180 = .ok (.newarray .int, 2) := by decide +kernel
theorem dX10_init_182 : decode cX10_init 182 = .ok (.putfield 177, 3) := by decide +kernel
theorem dX10_init_185 : decode cX10_init 185 = .ok (.aload_n 0, 1) := by decide +kernel
theorem dX10_init_186 : decode cX10_init 186 = .ok (.bipush 12, 2) := by decide +kernel
theorem dX10_init_188 : decode cX10_init 188 = .ok (.newarray .int, 2) := by decide +kernel
theorem dX10_init_190 : decode cX10_init 190 = .ok (.putfield 183, 3) := by decide +kernel
theorem dX10_init_193 : decode cX10_init 193 = .ok (.aload_n 0, 1) := by decide +kernel
theorem dX10_init_194 : decode cX10_init 194 = .ok (.bipush 12, 2) := by decide +kernel
theorem dX10_init_196 : decode cX10_init 196 = .ok (.newarray .int, 2) := by decide +kernel
theorem dX10_init_198 : decode cX10_init 198 = .ok (.putfield 186, 3) := by decide +kernel
theorem dX10_init_201 : decode cX10_init 201 = .ok (.aload_n 0, 1) := by decide +kernel
theorem dX10_init_202 : decode cX10_init 202 = .ok (.bipush 12, 2) := by decide +kernel
theorem dX10_init_204 : decode cX10_init 204 = .ok (.newarray .int, 2) := by decide +kernel
theorem dX10_init_206 : decode cX10_init 206 = .ok (.putfield 207, 3) := by decide +kernel
theorem dX10_init_209 : decode cX10_init 209 = .ok (.aload_n 0, 1) := by decide +kernel
theorem dX10_init_210 : decode cX10_init 210 = .ok (.sipush 2600, 3) := by decide +kernel
theorem dX10_init_213 : decode cX10_init 213 = .ok (.newarray .byte, 2) := by decide +kernel
theorem dX10_init_215 : decode cX10_init 215 = .ok (.putfield 239, 3) := by decide +kernel
theorem dX10_init_218 : decode cX10_init 218 = .ok (.aload_n 0, 1) := by decide +kernel
theorem dX10_init_219 : decode cX10_init 219 = .ok (.bipush 48, 2) := by decide +kernel
theorem dX10_init_221 : decode cX10_init 221 = .ok (.newarray .byte, 2) := by decide +kernel
theorem dX10_init_223 : decode cX10_init 223 = .ok (.putfield 283, 3) := by decide +kernel
theorem dX10_init_226 : decode cX10_init 226 = .ok (.aload_n 0, 1) := by decide +kernel
theorem dX10_init_227 : decode cX10_init 227 = .ok (.bipush 8, 2) := by decide +kernel
theorem dX10_init_229 : decode cX10_init 229 = .ok (.newarray .int, 2) := by decide +kernel
theorem dX10_init_231 : decode cX10_init 231 = .ok (.putfield 274, 3) := by decide +kernel
theorem dX10_init_234 : decode cX10_init 234 = .ok (.aload_n 0, 1) := by decide +kernel
theorem dX10_init_235 : decode cX10_init 235 = .ok (.bipush 64, 2) := by decide +kernel
theorem dX10_init_237 : decode cX10_init 237 = .ok (.newarray .int, 2) := by decide +kernel
theorem dX10_init_239 : decode cX10_init 239 = .ok (.putfield 286, 3) := by decide +kernel
theorem dX10_init_242 : decode cX10_init 242 = .ok (.aload_n 0, 1) := by decide +kernel
theorem dX10_init_243 : decode cX10_init 243 = .ok (.bipush 8, 2) := by decide +kernel
theorem dX10_init_245 : decode cX10_init 245 = .ok (.newarray .long, 2) := by decide +kernel
theorem dX10_init_247 : decode cX10_init 247 = .ok (.putfield 296, 3) := by decide +kernel
theorem dX10_init_250 : decode cX10_init 250 = .ok (.aload_n 0, 1) := by decide +kernel
theorem dX10_init_251 : decode cX10_init 251 = .ok (.bipush 80, 2) := by decide +kernel
theorem dX10_init_253 : decode cX10_init 253 = .ok (.newarray .long, 2) := by decide +kernel
theorem dX10_init_255 : decode cX10_init 255 = .ok (.putfield 305, 3) := by decide +kernel
theorem dX10_init_258 : decode cX10_init 258 = .ok (.aload_n 0, 1) := by decide +kernel
theorem dX10_init_259 : decode cX10_init 259 = .ok (.sipush 700, 3) := by decide +kernel
theorem dX10_init_262 : decode cX10_init 262 = .ok (.newarray .byte, 2) := by decide +kernel
theorem dX10_init_264 : decode cX10_init 264 = .ok (.putfield 328, 3) := by decide +kernel
theorem dX10_init_267 : decode cX10_init 267 = .ok (.aload_n 0, 1) := by decide +kernel
theorem dX10_init_268 : decode cX10_init 268 = .ok (.bipush 48, 2) := by decide +kernel
theorem dX10_init_270 : decode cX10_init 270 = .ok (.newarray .byte, 2) := by decide +kernel
theorem dX10_init_272 : decode cX10_init 272 = .ok (.putfield 319, 3) := by decide +kernel
theorem dX10_init_275 : decode cX10_init 275 = .ok (.aload_n 0, 1) := by decide +kernel
theorem dX10_init_276 : decode cX10_init 276 = .ok (.bipush 48, 2) := by decide +kernel
theorem dX10_init_278 : decode cX10_init 278 = .ok (.newarray .byte, 2) := by decide +kernel
theorem dX10_init_280 : decode cX10_init 280 = .ok (.putfield 343, 3) := by decide +kernel
theorem dX10_init_283 : decode cX10_init 283 = .ok (.aload_n 0, 1) := by decide +kernel
theorem dX10_init_284 : decode cX10_init 284 = .ok (.bipush 48, 2) := by decide +kernel
theorem dX10_init_286 : decode cX10_init 286 = .ok (.newarray .byte, 2) := by decide +kernel
theorem dX10_init_288 : decode cX10_init 288 = .ok (.putfield 346, 3) := by decide +kernel
theorem dX10_init_291 : decode cX10_init 291 = .ok (.aload_n 0, 1) := by decide +kernel
theorem dX10_init_292 : decode cX10_init 292 = .ok (.sipush 144, 3) := by decide +kernel
theorem dX10_init_295 : decode cX10_init 295 = .ok (.newarray .byte, 2) := by decide +kernel
theorem dX10_init_297 : decode cX10_init 297 = .ok (.putfield 349, 3) := by decide +kernel
theorem dX10_init_300 : decode cX10_init 300 = .ok (.aload_n 0, 1) := by decide +kernel
theorem dX10_init_301 : decode cX10_init 301 = .ok (.new 137, 3) := by decide +kernel
theorem dX10_init_304 : decode cX10_init 304 = .ok (.dup, 1) := by decide +kernel
theorem dX10_init_305 : decode cX10_init 305 = .ok (.invokespecial 491, 3) := by decide +kernel
theorem dX10_init_308 : decode cX10_init 308 = .ok (.putfield 391, 3) := by decide +kernel
theorem dX10_init_311 : decode cX10_init 311 = .ok (.aload_n 0, 1) := by decide +kernel
theorem dX10_init_312 : decode cX10_init 312 = .ok (.bipush 12, 2) := by decide +kernel
theorem dX10_init_314 : decode cX10_init 314 = .ok (.newarray .int, 2) := by decide +kernel
theorem dX10_init_316 : decode cX10_init 316 = .ok (.putfield 366, 3) := by decide +kernel
theorem dX10_init_319 : decode cX10_init 319 = .ok (.aload_n 0, 1) := by decide +kernel
theorem dX10_init_320 : decode cX10_init 320 = .ok (.bipush 12, 2) := by decide +kernel
theorem dX10_init_322 : decode cX10_init 322 = .ok (.newarray .int, 2) := by decide +kernel
theorem dX10_init_324 : decode cX10_init 324 = .ok (.putfield 368, 3) := by decide +kernel
theorem dX10_init_327 : decode cX10_init 327 = .ok (.aload_n 0, 1) := by decide +kernel
theorem dX10_init_328 : decode cX10_init 328 = .ok (.bipush 12, 2) := by decide +kernel
theorem dX10_init_330 : decode cX10_init 330 = .ok (.newarray .int, 2) := by decide +kernel
theorem dX10_init_332 : decode cX10_init 332 = .ok (.putfield 374, 3) := by decide +kernel
theorem dX10_init_335 : decode cX10_init 335 = .ok (.aload_n 0, 1) := by decide +kernel
theorem dX10_init_336 : decode cX10_init 336 = .ok (.bipush 12, 2) := by decide +kernel
theorem dX10_init_338 : decode cX10_init 338 = .ok (.newarray .int, 2) := by decide +kernel
theorem dX10_init_340 : decode cX10_init 340 = .ok (.putfield 380, 3) := by decide +kernel
theorem dX10_init_343 : decode cX10_init 343 = .ok (.aload_n 0, 1) := by decide +kernel
theorem dX10_init_344 : decode cX10_init 344 = .ok (.bipush 12, 2) := by decide +kernel
theorem dX10_init_346 : decode cX10_init 346 = .ok (.newarray .int, 2) := by decide +kernel
theorem dX10_init_348 : decode cX10_init 348 = .ok (.putfield 377, 3) := by decide +kernel
theorem dX10_init_351 : decode cX10_init 351 = .ok (.aload_n 0, 1) := by decide +kernel
theorem dX10_init_352 : decode cX10_init 352 = .ok (.bipush 12, 2) := by decide +kernel
theorem dX10_init_354 : decode cX10_init 354 = .ok (.newarray .int, 2) := by decide +kernel
theorem dX10_init_356 : decode cX10_init 356 = .ok (.putfield 371, 3) := by decide +kernel
theorem dX10_init_359 : decode cX10_init 359 = .ok (.aload_n 0, 1) := by decide +kernel
theorem dX10_init_360 : decode cX10_init 360 = .ok (.bipush 12, 2) := by decide +kernel
theorem dX10_init_362 : decode cX10_init 362 = .ok (.newarray .int, 2) := by decide +kernel
theorem dX10_init_364 : decode cX10_init 364 = .ok (.putfield 385, 3) := by decide +kernel
theorem dX10_init_367 : decode cX10_init 367 = .ok (.aload_n 0, 1) := by decide +kernel
theorem dX10_init_368 : decode cX10_init 368 = .ok (.bipush 12, 2) := by decide +kernel
theorem dX10_init_370 : decode cX10_init 370 = .ok (.newarray .int, 2) := by decide +kernel
theorem dX10_init_372 : decode cX10_init 372 = .ok (.putfield 388, 3) := by decide +kernel
theorem dX10_init_375 : decode cX10_init 375 = .ok (.aload_n 0, 1) := by decide +kernel
theorem dX10_init_376 : decode cX10_init 376 = .ok (.bipush 8, 2) := by decide +kernel
theorem dX10_init_378 : decode cX10_init 378 = .ok (.anewarray 137, 3) := by decide +kernel
theorem dX10_init_381 : decode cX10_init 381 = .ok (.putfield 422, 3) := by decide +kernel
theorem dX10_init_384 : decode cX10_init 384 = .ok (.aload_n 0, 1) := by decide +kernel
theorem dX10_init_385 : decode cX10_init 385 = .ok (.bipush 8, 2) := by decide +kernel
theorem dX10_init_387 : decode cX10_init 387 = .ok (.anewarray 137, 3) := by decide +kernel
theorem dX10_init_390 : decode cX10_init 390 = .ok (.putfield 429, 3) := by decide +kernel
theorem dX10_init_393 : decode cX10_init 393 = .ok (.aload_n 0, 1) := by decide +kernel
theorem dX10_init_394 : decode cX10_init 394 = .ok (.new 137, 3) := by decide +kernel
theorem dX10_init_397 : decode cX10_init 397 = .ok (.dup, 1) := by decide +kernel
theorem dX10_init_398 : decode cX10_init 398 = .ok (.invokespecial 491, 3) := by decide +kernel
theorem dX10_init_401 : decode cX10_init 401 = .ok (.putfield 417, 3) := by decide +kernel
theorem dX10_init_404 : decode cX10_init 404 = .ok (.aload_n 0, 1) := by decide +kernel
theorem dX10_init_405 : decode cX10_init 405 = .ok (.new 137, 3) := by decide +kernel
theorem dX10_init_408 : decode cX10_init 408 = .ok (.dup, 1) := by decide +kernel
theorem dX10_init_409 : decode cX10_init 409 = .ok (.invokespecial 491, 3) := by decide +kernel
theorem dX10_init_412 : decode cX10_init 412 = .ok (.putfield 419, 3) := by decide +kernel
theorem dX10_init_415 : decode cX10_init 415 = .ok (.aload_n 0, 1) := by decide +kernel
theorem dX10_init_416 : decode cX10_init 416 = .ok (.new 137, 3) := by decide +kernel
theorem dX10_init_419 : decode cX10_init 419 = .ok (.dup, 1) := by decide +kernel
theorem dX10_init_420 : decode cX10_init 420 = .ok (.invokespecial 491, 3) := by decide +kernel
theorem dX10_init_423 : decode cX10_init 423 = .ok (.putfield 450, 3) := by decide +kernel
theorem dX10_init_426 : decode cX10_init 426 = .ok (.aload_n 0, 1) := by decide +kernel
theorem dX10_init_427 : decode cX10_init 427 = .ok (.new 137, 3) := by decide +kernel
theorem dX10_init_430 : decode cX10_init 430 = .ok (.dup, 1) := by decide +kernel
theorem dX10_init_431 : decode cX10_init 431 = .ok (.invokespecial 491, 3) := by decide +kernel
theorem dX10_init_434 : decode cX10_init 434 = .ok (.putfield 453, 3) := by decide +kernel
theorem dX10_init_437 : decode cX10_init 437 = .ok (.aload_n 0, 1) := by decide +kernel
theorem dX10_init_438 : decode cX10_init 438 = .ok (.new 137, 3) := by decide +kernel
theorem dX10_init_441 : decode cX10_init 441 = .ok (.dup, 1) := by decide +kernel
theorem dX10_init_442 : decode cX10_init 442 = .ok (.invokespecial 491, 3) := by decide +kernel
theorem dX10_init_445 : decode cX10_init 445 = .ok (.putfield 443, 3) := by decide +kernel
theorem dX10_init_448 : decode cX10_init 448 = .ok (.aload_n 0, 1) := by decide +kernel
theorem dX10_init_449 : decode cX10_init 449 = .ok (.bipush 48, 2) := by decide +kernel
theorem dX10_init_451 : decode cX10_init 451 = .ok (.newarray .byte, 2) := by decide +kernel
theorem dX10_init_453 : decode cX10_init 453 = .ok (.putfield 414, 3) := by decide +kernel
theorem dX10_init_456 : decode cX10_init 456 = .ok (.aload_n 0, 1) := by decide +kernel
theorem dX10_init_457 : decode cX10_init 457 = .ok (.bipush 49, 2) := by decide +kernel
theorem dX10_init_459 : decode cX10_init 459 = .ok (.newarray .byte, 2) := by decide +kernel
theorem dX10_init_461 : decode cX10_init 461 = .ok (.putfield 402, 3) := by decide +kernel
theorem dX10_init_464 : decode cX10_init 464 = .ok (.aload_n 0, 1) := by decide +kernel
theorem dX10_init_465 : decode cX10_init 465 = .ok (.bipush 12, 2) := by decide +kernel
theorem dX10_init_467 : decode cX10_init 467 = .ok (.newarray .int, 2) := by decide +kernel
theorem dX10_init_469 : decode cX10_init 469 = .ok (.putfield 437, 3) := by decide +kernel
theorem dX10_init_472 : decode cX10_init 472 = .ok (.aload_n 0, 1) := by decide +kernel
theorem dX10_init_473 : decode cX10_init 473 = .ok (.bipush 12, 2) := by decide +kernel
theorem dX10_init_475 : decode cX10_init 475 = .ok (.newarray .int, 2) := by decide +kernel
theorem dX10_init_477 : decode cX10_init 477 = .ok (.putfield 468, 3) := by decide +kernel
theorem dX10_init_480 : decode cX10_init 480 = .ok (.aload_n 0, 1) := by decide +kernel
theorem dX10_init_481 : decode cX10_init 481 = .ok (.bipush 12, 2) := by decide +kernel
theorem dX10_init_483 : decode cX10_init 483 = .ok (.newarray .int, 2) := by decide +kernel
theorem dX10_init_485 : decode cX10_init 485 = .ok (.putfield 479, 3) := by decide +kernel
theorem dX10_init_488 : decode cX10_init 488 = .ok (.aload_n 0, 1) := by decide +kernel
theorem dX10_init_489 : decode cX10_init 489 = .ok (.bipush 12, 2) := by decide +kernel
theorem dX10_init_491 : decode cX10_init 491 = .ok (.newarray .int, 2) := by decide +kernel
theorem dX10_init_493 : decode cX10_init 493 = .ok (.putfield 482, 3) := by decide +kernel
theorem dX10_init_496 : decode cX10_init 496 = .ok (.aload_n 0, 1) := by decide +kernel
theorem dX10_init_497 : decode cX10_init 497 = .ok (.bipush 6, 2) := by decide +kernel
theorem dX10_init_499 : decode cX10_init 499 = .ok (.newarray .int, 2) := by decide +kernel
theorem dX10_init_501 : decode cX10_init 501 = .ok (.putfield 492, 3) := by decide +kernel
theorem dX10_init_504 : decode cX10_init 504 = .ok (.aload_n 0, 1) := by decide +kernel
theorem dX10_init_505 : decode cX10_init 505 = .ok (.bipush 6, 2) := by decide +kernel
theorem dX10_init_507 : decode cX10_init 507 = .ok (.newarray .boolean, 2) := by decide +kernel
theorem dX10_init_509 : decode cX10_init 509 = .ok (.putfield 495, 3) := by decide +kernel
theorem dX10_init_512 : decode cX10_init 512 = .ok (.aload_n 0, 1) := by decide +kernel
theorem dX10_init_513 : decode cX10_init 513 = .ok (.sipush 192, 3) := by decide +kernel
theorem dX10_init_516 : decode cX10_init 516 = .ok (.newarray .byte, 2) := by decide +kernel
theorem dX10_init_518 : decode cX10_init 518 = .ok (.putfield 499, 3) := by decide +kernel
theorem dX10_init_521 : decode cX10_init 521 = .ok (.aload_n 0, 1) := by decide +kernel
theorem dX10_init_522 : decode cX10_init 522 = .ok (.bipush 6, 2) := by decide +kernel
theorem dX10_init_524 : decode cX10_init 524 = .ok (.bipush 64, 2) := by decide +kernel
theorem dX10_init_526 : decode cX10_init 526 = .ok (.multianewarray 502 2, 4) := by decide +kernel
theorem dX10_init_530 : decode cX10_init 530 = .ok (.putfield 475, 3) := by decide +kernel
theorem dX10_init_533 : decode cX10_init 533 = .ok (.aload_n 0, 1) := by decide +kernel
theorem dX10_init_534 : decode cX10_init 534 = .ok (.bipush 6, 2) := by decide +kernel
theorem dX10_init_536 : decode cX10_init 536 = .ok (.anewarray 137, 3) := by decide +kernel
theorem dX10_init_539 : decode cX10_init 539 = .ok (.putfield 458, 3) := by decide +kernel
theorem dX10_init_542 : decode cX10_init 542 = .ok (.aload_n 0, 1) := by decide +kernel
theorem dX10_init_543 : decode cX10_init 543 = .ok (.bipush 6, 2) := by decide +kernel
theorem dX10_init_545 : decode cX10_init 545 = .ok (.anewarray 14, 3) := by decide +kernel
theorem dX10_init_548 : decode cX10_init 548 = .ok (.putfield 503, 3) := by decide +kernel
theorem dX10_init_551 : decode cX10_init 551 = .ok (.aload_n 0, 1) := by decide +kernel
theorem dX10_init_552 : decode cX10_init 552 = .ok (.bipush 6, 2) := by decide +kernel
theorem dX10_init_554 : decode cX10_init 554 = .ok (.newarray .int, 2) := by decide +kernel
theorem dX10_init_556 : decode cX10_init 556 = .ok (.putfield 507, 3) := by decide +kernel
theorem dX10_init_559 : decode cX10_init 559 = .ok (.aload_n 0, 1) := by decide +kernel
theorem dX10_init_560 : decode cX10_init 560 = .ok (.bipush 6, 2) := by decide +kernel
theorem dX10_init_562 : decode cX10_init 562 = .ok (.newarray .int, 2) := by decide +kernel
theorem dX10_init_564 : decode cX10_init 564 = .ok (.putfield 510, 3) := by decide +kernel
theorem dX10_init_567 : decode cX10_init 567 = .ok (.aload_n 0, 1) := by decide +kernel
theorem dX10_init_568 : decode cX10_init 568 = .ok (.bipush 6, 2) := by decide +kernel
theorem dX10_init_570 : decode cX10_init 570 = .ok (.newarray .int, 2) := by decide +kernel
theorem dX10_init_572 : decode cX10_init 572 = .ok (.putfield 513, 3) := by decide +kernel
theorem dX10_init_575 : decode cX10_init 575 = .ok (.aload_n 0, 1) := by decide +kernel
theorem dX10_init_576 : decode cX10_init 576 = .ok (.bipush 60, 2) := by decide +kernel
theorem dX10_init_578 : decode cX10_init 578 = .ok (.newarray .int, 2) := by decide +kernel
theorem dX10_init_580 : decode cX10_init 580 = .ok (.putfield 516, 3) := by decide +kernel
theorem dX10_init_583 : decode cX10_init 583 = .ok (.aload_n 0, 1) := by decide +kernel
theorem dX10_init_584 : decode cX10_init 584 = .ok (.bipush 60, 2) := by decide +kernel
theorem dX10_init_586 : decode cX10_init 586 = .ok (.newarray .boolean, 2) := by decide +kernel
theorem dX10_init_588 : decode cX10_init 588 = .ok (.putfield 519, 3) := by decide +kernel
theorem dX10_init_591 : decode cX10_init 591 = .ok (.aload_n 0, 1) := by decide +kernel
theorem dX10_init_592 : decode cX10_init 592 = .ok (.sipush 5880, 3) := by decide +kernel
theorem dX10_init_595 : decode cX10_init 595 = .ok (.newarray .byte, 2) := by decide +kernel
theorem dX10_init_597 : decode cX10_init 597 = .ok (.putfield 522, 3) := by decide +kernel
theorem dX10_init_600 : decode cX10_init 600 = .ok (.aload_n 0, 1) := by decide +kernel
theorem dX10_init_601 : decode cX10_init 601 = .ok (.bipush 60, 2) := by decide +kernel
theorem dX10_init_603 : decode cX10_init 603 = .ok (.bipush 64, 2) := by decide +kernel
theorem dX10_init_605 : decode cX10_init 605 = .ok (.multianewarray 502 2, 4) := by decide +kernel
theorem dX10_init_609 : decode cX10_init 609 = .ok (.putfield 525, 3) := by decide +kernel
theorem dX10_init_612 : decode cX10_init 612 = .ok (.aload_n 0, 1) := by decide +kernel
theorem dX10_init_613 : decode cX10_init 613 = .ok (.sipush 4096, 3) := by decide +kernel
theorem dX10_init_616 : decode cX10_init 616 = .ok (.newarray .byte, 2) := by decide +kernel
theorem dX10_init_618 : decode cX10_init 618 = .ok (.putfield 528, 3) := by decide +kernel
theorem dX10_init_621 : decode cX10_init 621 = .ok (.aload_n 0, 1) := by decide +kernel
theorem dX10_init_622 : decode cX10_init 622 = .ok (.iconst (-1), 1) := by decide +kernel
theorem dX10_init_623 : decode cX10_init 623 = .ok (.putfield 531, 3) := by decide +kernel
theorem dX10_init_626 : decode cX10_init 626 = .ok (.aload_n 0, 1) := by decide +kernel
theorem dX10_init_627 : decode cX10_init 627 = .ok (.sipush 1208, 3) := by decide +kernel
theorem dX10_init_630 : decode cX10_init 630 = .ok (.newarray .byte, 2) := by decide +kernel
theorem dX10_init_632 : decode cX10_init 632 = .ok (.putfield 534, 3) := by decide +kernel
theorem dX10_init_635 : decode cX10_init 635 = .ok (.aload_n 0, 1) := by decide +kernel
theorem dX10_init_636 : decode cX10_init 636 = .ok (.sipush 2900, 3) := by decide +kernel
theorem dX10_init_639 : decode cX10_init 639 = .ok (.newarray .byte, 2) := by decide +kernel
theorem dX10_init_641 : decode cX10_init 641 = .ok (.putfield 537, 3) := by decide +kernel
theorem dX10_init_644 : decode cX10_init 644 = .ok (.aload_n 0, 1) := by decide +kernel
theorem dX10_init_645 : decode cX10_init 645 = .ok (.sipush 260, 3) := by decide +kernel
theorem dX10_init_648 : decode cX10_init 648 = .ok (.newarray .byte, 2) := by decide +kernel
theorem dX10_init_650 : decode cX10_init 650 = .ok (.putfield 540, 3) := by decide +kernel
theorem dX10_init_653 : decode cX10_init 653 = .ok (.aload_n 0, 1) := by decide +kernel
theorem dX10_init_654 : decode cX10_init 654 = .ok (.sipush 260, 3) := by decide +kernel
theorem dX10_init_657 : decode cX10_init 657 = .ok (.newarray .byte, 2) := by decide +kernel
theorem dX10_init_659 : decode cX10_init 659 = .ok (.putfield 543, 3) := by decide +kernel
theorem dX10_init_662 : decode cX10_init 662 = .ok (.aload_n 0, 1) := by decide +kernel
theorem dX10_init_663 : decode cX10_init 663 = .ok (.bipush 48, 2) := by decide +kernel
theorem dX10_init_665 : decode cX10_init 665 = .ok (.newarray .byte, 2) := by decide +kernel
theorem dX10_init_667 : decode cX10_init 667 = .ok (.putfield 546, 3) := by decide +kernel
theorem dX10_init_670 : decode cX10_init 670 = .ok (.aload_n 0, 1) := by decide +kernel
theorem dX10_init_671 : decode cX10_init 671 = .ok (.bipush 64, 2) := by decide +kernel
theorem dX10_init_673 : decode cX10_init 673 = .ok (.newarray .int, 2) := by decide +kernel
theorem dX10_init_675 : decode cX10_init 675 = .ok (.putfield 549, 3) := by decide +kernel
theorem dX10_init_678 : decode cX10_init 678 = .ok (.aload_n 0, 1) := by decide +kernel
theorem dX10_init_679 : decode cX10_init 679 = .ok (.bipush 64, 2) := by decide +kernel
theorem dX10_init_681 : decode cX10_init 681 = .ok (.newarray .int, 2) := by decide +kernel
theorem dX10_init_683 : decode cX10_init 683 = .ok (.putfield 552, 3) := by decide +kernel
theorem dX10_init_686 : decode cX10_init 686 = .ok (.aload_n 0, 1) := by decide +kernel
theorem dX10_init_687 : decode cX10_init 687 = .ok (.bipush 64, 2) := by decide +kernel
theorem dX10_init_689 : decode cX10_init 689 = .ok (.newarray .int, 2) := by decide +kernel
theorem dX10_init_691 : decode cX10_init 691 = .ok (.putfield 555, 3) := by decide +kernel
theorem dX10_init_694 : decode cX10_init 694 = .ok (.aload_n 0, 1) := by decide +kernel
theorem dX10_init_695 : decode cX10_init 695 = .ok (.iconst 1, 1) := by decide +kernel
theorem dX10_init_696 : decode cX10_init 696 = .ok (.newarray .int, 2) := by decide +kernel
theorem dX10_init_698 : decode cX10_init 698 = .ok (.putfield 558, 3) := by decide +kernel
theorem dX10_init_701 : decode cX10_init 701 = .ok (.aload_n 0, 1) := by decide +kernel
theorem dX10_init_702 : decode cX10_init 702 = .ok (.iconst 5, 1) := by decide +kernel
theorem dX10_init_703 : decode cX10_init 703 = .ok (.newarray .int, 2) := by decide +kernel
theorem dX10_init_705 : decode cX10_init 705 = .ok (.putfield 561, 3) := by decide +kernel
theorem dX10_init_708 : decode cX10_init 708 = .ok (.aload_n 0, 1) := by decide +kernel
theorem dX10_init_709 : decode cX10_init 709 = .ok (.new 137, 3) := by decide +kernel
theorem dX10_init_712 : decode cX10_init 712 = .ok (.dup, 1) := by decide +kernel
theorem dX10_init_713 : decode cX10_init 713 = .ok (.invokespecial 491, 3) := by decide +kernel
theorem dX10_init_716 : decode cX10_init 716 = .ok (.putfield 564, 3) := by decide +kernel
theorem dX10_init_719 : decode cX10_init 719 = .ok (.aload_n 0, 1) := by decide +kernel
theorem dX10_init_720 : decode cX10_init 720 = .ok (.bipush 12, 2) := by decide +kernel
theorem dX10_init_722 : decode cX10_init 722 = .ok (.newarray .int, 2) := by decide +kernel
theorem dX10_init_724 : decode cX10_init 724 = .ok (.putfield 567, 3) := by decide +kernel
theorem dX10_init_727 : decode cX10_init 727 = .ok (.aload_n 0, 1) := by decide +kernel
theorem dX10_init_728 : decode cX10_init 728 = .ok (.sipush 384, 3) := by decide +kernel
theorem dX10_init_731 : decode cX10_init 731 = .ok (.newarray .byte, 2) := by decide +kernel
theorem dX10_init_733 : decode cX10_init 733 = .ok (.putfield 570, 3) := by decide +kernel
theorem dX10_init_736 : decode cX10_init 736 = .ok (.aload_n 0, 1) := by decide +kernel
theorem dX10_init_737 : decode cX10_init 737 = .ok (.getfield 61, 3) := by decide +kernel
theorem dX10_init_740 : decode cX10_init 740 = .ok (.getstatic 85, 3) := by decide +kernel
theorem dX10_init_743 : decode cX10_init 743 = .ok (.bipush 12, 2) := by decide +kernel
theorem dX10_init_745 : decode cX10_init 745 = .ok (.invokevirtual 573, 3) := by decide +kernel
theorem dX10_init_748 : decode cX10_init 748 = .ok (.aload_n 0, 1) := by decide +kernel
theorem dX10_init_749 : decode cX10_init 749 = .ok (.getfield 360, 3) := by decide +kernel
theorem dX10_init_752 : decode cX10_init 752 = .ok (.getstatic 236, 3) := by decide +kernel
theorem dX10_init_755 : decode cX10_init 755 = .ok (.bipush 12, 2) := by decide +kernel
theorem dX10_init_757 : decode cX10_init 757 = .ok (.invokevirtual 573, 3) := by decide +kernel
theorem dX10_init_760 : decode cX10_init 760 = .ok (.getstatic 576, 3) := by decide +kernel
theorem dX10_init_763 : decode cX10_init 763 = .ok (.aload_n 0, 1) := by decide +kernel
theorem dX10_init_764 : decode cX10_init 764 = .ok (.getfield 465, 3) := by decide +kernel
theorem dX10_init_767 : decode cX10_init 767 = .ok (.getfield 146, 3) := by decide +kernel
theorem dX10_init_770 : decode cX10_init 770 = .ok (.bipush 12, 2) := by decide +kernel
theorem dX10_init_772 : decode cX10_init 772 = .ok (.invokestatic 91, 3) := by decide +kernel
theorem dX10_init_775 : decode cX10_init 775 = .ok (.getstatic 579, 3) := by decide +kernel
theorem dX10_init_778 : decode cX10_init 778 = .ok (.aload_n 0, 1) := by decide +kernel
theorem dX10_init_779 : decode cX10_init 779 = .ok (.getfield 465, 3) := by decide +kernel
theorem dX10_init_782 : decode cX10_init 782 = .ok (.getfield 149, 3) := by decide +kernel
theorem dX10_init_785 : decode cX10_init 785 = .ok (.bipush 12, 2) := by decide +kernel
theorem dX10_init_787 : decode cX10_init 787 = .ok (.invokestatic 91, 3) := by decide +kernel
theorem dX10_init_790 : decode cX10_init 790 = .ok (.iconst 0, 1) := by decide +kernel
theorem dX10_init_791 : decode cX10_init 791 = .ok (.istore_n 1, 1) := by decide +kernel
theorem dX10_init_792 : decode cX10_init 792 = .ok (.iload_n 1, 1) := by decide +kernel
theorem dX10_init_793 : decode cX10_init 793 = .ok (.bipush 8, 2) := by decide +kernel
theorem dX10_init_795 : decode cX10_init 795 = .ok (.if_icmp .ge 35, 3) := by decide +kernel
theorem dX10_init_798 : decode cX10_init 798 = .ok (.aload_n 0, 1) := by decide +kernel
theorem dX10_init_799 : decode cX10_init 799 = .ok (.getfield 422, 3) := by decide +kernel
theorem dX10_init_802 : decode cX10_init 802 = .ok (.iload_n 1, 1) := by decide +kernel
theorem dX10_init_803 : decode cX10_init 803 = .ok (.new 137, 3) := by decide +kernel
theorem dX10_init_806 : decode cX10_init 806 = .ok (.dup, 1) := by decide +kernel
theorem dX10_init_807 : decode cX10_init 807 = .ok (.invokespecial 491, 3) := by decide +kernel
theorem dX10_init_810 : decode cX10_init 810 = .ok (.aastore, 1) := by decide +kernel
theorem dX10_init_811 : decode cX10_init 811 = .ok (.aload_n 0, 1) := by decide +kernel
theorem dX10_init_812 : decode cX10_init 812 = .ok (.getfield 429, 3) := by decide +kernel
theorem dX10_init_815 : decode cX10_init 815 = .ok (.iload_n 1, 1) := by decide +kernel
theorem dX10_init_816 : decode cX10_init 816 = .ok (.new 137, 3) := by decide +kernel
theorem dX10_init_819 : decode cX10_init 819 = .ok (.dup, 1) := by decide +kernel
theorem dX10_init_820 : decode cX10_init 820 = .ok (.invokespecial 491, 3) := by decide +kernel
theorem dX10_init_823 : decode cX10_init 823 = .ok (.aastore, 1) := by decide +kernel
theorem dX10_init_824 : decode cX10_init 824 = .ok (.iinc 1 1, 3) := by decide +kernel
theorem dX10_init_827 : decode cX10_init 827 = .ok (.goto (-35), 3) := by decide +kernel
theorem dX10_init_830 : decode cX10_init 830 = .ok (.iconst 0, 1) := by decide +kernel
theorem dX10_init_831 : decode cX10_init 831 = .ok (.istore_n 1, 1) := by decide +kernel
theorem dX10_init_832 : decode cX10_init 832 = .ok (.iload_n 1, 1) := by decide +kernel
theorem dX10_init_833 : decode cX10_init 833 = .ok (.bipush 6, 2) := by decide +kernel
theorem dX10_init_835 : decode cX10_init 835 = .ok (.if_icmp .ge 35, 3) := by decide +kernel
theorem dX10_init_838 : decode cX10_init 838 = .ok (.aload_n 0, 1) := by decide +kernel
theorem dX10_init_839 : decode cX10_init 839 = .ok (.getfield 458, 3) := by decide +kernel
theorem dX10_init_842 : decode cX10_init 842 = .ok (.iload_n 1, 1) := by decide +kernel
theorem dX10_init_843 : decode cX10_init 843 = .ok (.new 137, 3) := by decide +kernel
theorem dX10_init_846 : decode cX10_init 846 = .ok (.dup, 1) := by decide +kernel
theorem dX10_init_847 : decode cX10_init 847 = .ok (.invokespecial 491, 3) := by decide +kernel
theorem dX10_init_850 : decode cX10_init 850 = .ok (.aastore, 1) := by decide +kernel
theorem dX10_init_851 : decode cX10_init 851 = .ok (.aload_n 0, 1) := by decide +kernel
theorem dX10_init_852 : decode cX10_init 852 = .ok (.getfield 503, 3) := by decide +kernel
theorem dX10_init_855 : decode cX10_init 855 = .ok (.iload_n 1, 1) := by decide +kernel
theorem dX10_init_856 : decode cX10_init 856 = .ok (.new 14, 3) := by decide +kernel
theorem dX10_init_859 : decode cX10_init 859 = .ok (.dup, 1) := by decide +kernel
theorem dX10_init_860 : decode cX10_init 860 = .ok (.invokespecial 490, 3) := by decide +kernel
theorem dX10_init_863 : decode cX10_init 863 = .ok (.aastore, 1) := by decide +kernel
theorem dX10_init_864 : decode cX10_init 864 = .ok (.iinc 1 1, 3) := by decide +kernel
theorem dX10_init_867 : decode cX10_init 867 = .ok (.goto (-35), 3) := by decide +kernel
theorem dX10_init_870 : decode cX10_init 870 = .ok (.iconst 1, 1) := by decide +kernel
theorem dX10_init_871 : decode cX10_init 871 = .ok (.aload_n 0, 1) := by decide +kernel
theorem dX10_init_872 : decode cX10_init 872 = .ok (.getfield 210, 3) := by decide +kernel
theorem dX10_init_875 : decode cX10_init 875 = .ok (.bipush 12, 2) := by decide +kernel
theorem dX10_init_877 : decode cX10_init 877 = .ok (.invokestatic 98, 3) := by decide +kernel
theorem dX10_init_880 : decode cX10_init 880 = .ok (.aload_n 0, 1) := by decide +kernel
theorem dX10_init_881 : decode cX10_init 881 = .ok (.getfield 210, 3) := by decide +kernel
theorem dX10_init_884 : decode cX10_init 884 = .ok (.getstatic 85, 3) := by decide +kernel
theorem dX10_init_887 : decode cX10_init 887 = .ok (.aload_n 0, 1) := by decide +kernel
theorem dX10_init_888 : decode cX10_init 888 = .ok (.getfield 210, 3) := by decide +kernel
theorem dX10_init_891 : decode cX10_init 891 = .ok (.bipush 12, 2) := by decide +kernel
theorem dX10_init_893 : decode cX10_init 893 = .ok (.invokestatic 18, 3) := by decide +kernel
theorem dX10_init_896 : decode cX10_init 896 = .ok (.istore_n 1, 1) := by decide +kernel
theorem dX10_init_897 : decode cX10_init 897 = .ok (.aload_n 0, 1) := by decide +kernel
theorem dX10_init_898 : decode cX10_init 898 = .ok (.getfield 210, 3) := by decide +kernel
theorem dX10_init_901 : decode cX10_init 901 = .ok (.bipush 12, 2) := by decide +kernel
theorem dX10_init_903 : decode cX10_init 903 = .ok (.iload_n 1, 1) := by decide +kernel
theorem dX10_init_904 : decode cX10_init 904 = .ok (.invokestatic 106, 3) := by decide +kernel
theorem dX10_init_907 : decode cX10_init 907 = .ok (.aload_n 0, 1) := by decide +kernel
theorem dX10_init_908 : decode cX10_init 908 = .ok (.getfield 210, 3) := by decide +kernel
theorem dX10_init_911 : decode cX10_init 911 = .ok (.bipush 12, 2) := by decide +kernel
theorem dX10_init_913 : decode cX10_init 913 = .ok (.iconst 0, 1) := by decide +kernel
theorem dX10_init_914 : decode cX10_init 914 = .ok (.invokestatic 106, 3) := by decide +kernel
theorem dX10_init_917 : decode cX10_init 917 = .ok (.iconst 3, 1) := by decide +kernel
theorem dX10_init_918 : decode cX10_init 918 = .ok (.aload_n 0, 1) := by decide +kernel
theorem dX10_init_919 : decode cX10_init 919 = .ok (.getfield 152, 3) := by decide +kernel
theorem dX10_init_922 : decode cX10_init 922 = .ok (.bipush 12, 2) := by decide +kernel
theorem dX10_init_924 : decode cX10_init 924 = .ok (.invokestatic 98, 3) := by decide +kernel
theorem dX10_init_927 : decode cX10_init 927 = .ok (.getstatic 85, 3) := by decide +kernel
theorem dX10_init_930 : decode cX10_init 930 = .ok (.aload_n 0, 1) := by decide +kernel
theorem dX10_init_931 : decode cX10_init 931 = .ok (.getfield 152, 3) := by decide +kernel
theorem dX10_init_934 : decode cX10_init 934 = .ok (.aload_n 0, 1) := by decide +kernel
theorem dX10_init_935 : decode cX10_init 935 = .ok (.getfield 377, 3) := by decide +kernel
theorem dX10_init_938 : decode cX10_init 938 = .ok (.bipush 12, 2) := by decide +kernel
theorem dX10_init_940 : decode cX10_init 940 = .ok (.invokestatic 30, 3) := by decide +kernel
theorem dX10_init_943 : decode cX10_init 943 = .ok (.istore_n 1, 1) := by decide +kernel
theorem dX10_init_944 : decode cX10_init 944 = .ok (.bipush 12, 2) := by decide +kernel
theorem dX10_init_946 : decode cX10_init 946 = .ok (.aload_n 0, 1) := by decide +kernel
theorem dX10_init_947 : decode cX10_init 947 = .ok (.getfield 152, 3) := by decide +kernel
theorem dX10_init_950 : decode cX10_init 950 = .ok (.bipush 12, 2) := by decide +kernel
theorem dX10_init_952 : decode cX10_init 952 = .ok (.invokestatic 98, 3) := by decide +kernel
theorem dX10_init_955 : decode cX10_init 955 = .ok (.getstatic 85, 3) := by decide +kernel
theorem dX10_init_958 : decode cX10_init 958 = .ok (.aload_n 0, 1) := by decide +kernel
theorem dX10_init_959 : decode cX10_init 959 = .ok (.getfield 152, 3) := by decide +kernel
theorem dX10_init_962 : decode cX10_init 962 = .ok (.aload_n 0, 1) := by decide +kernel
theorem dX10_init_963 : decode cX10_init 963 = .ok (.getfield 371, 3) := by decide +kernel
theorem dX10_init_966 : decode cX10_init 966 = .ok (.bipush 12, 2) := by decide +kernel
theorem dX10_init_968 : decode cX10_init 968 = .ok (.invokestatic 30, 3) := by decide +kernel
theorem dX10_init_971 : decode cX10_init 971 = .ok (.istore_n 1, 1) := by decide +kernel
theorem dX10_init_972 : decode cX10_init 972 = .ok (.return_, 1) := by decide +kernel
abbrev cX10_copy : ByteArray := prog_15_method_5_code
def yX10_copy : MethodName := ⟨RX10, "copy", "([I[II)V"⟩
theorem dX10_copy_0 : decode cX10_copy 0 = .ok (.iconst 0, 1) := by decide +kernel
theorem dX10_copy_1 : decode cX10_copy 1 = .ok (.istore_n 3, 1) := by decide +kernel
theorem dX10_copy_2 : decode cX10_copy 2 = .ok (.iload_n 3, 1) := by decide +kernel
theorem dX10_copy_3 : decode cX10_copy 3 = .ok (.iload_n 2, 1) := by decide +kernel
theorem dX10_copy_4 : decode cX10_copy 4 = .ok (.if_icmp .ge 15, 3) := by decide +kernel
theorem dX10_copy_7 : decode cX10_copy 7 = .ok (.aload_n 1, 1) := by decide +kernel
theorem dX10_copy_8 : decode cX10_copy 8 = .ok (.iload_n 3, 1) := by decide +kernel
theorem dX10_copy_9 : decode cX10_copy 9 = .ok (.aload_n 0, 1) := by decide +kernel
theorem dX10_copy_10 : decode cX10_copy 10 = .ok (.iload_n 3, 1) := by decide +kernel
theorem dX10_copy_11 : decode cX10_copy 11 = .ok (.iaload, 1) := by decide +kernel
theorem dX10_copy_12 : decode cX10_copy 12 = .ok (.iastore, 1) := by decide +kernel
theorem dX10_copy_13 : decode cX10_copy 13 = .ok (.iinc 3 1, 3) := by decide +kernel
theorem dX10_copy_16 : decode cX10_copy 16 = .ok (.goto (-14), 3) := by decide +kernel
theorem dX10_copy_19 : decode cX10_copy 19 = .ok (.return_, 1) := by decide +kernel
abbrev cX10_small : ByteArray := prog_15_method_6_code
def yX10_small : MethodName := ⟨RX10, "small", "(I[II)V"⟩
theorem dX10_small_0 : decode cX10_small 0 = .ok (.iconst 1, 1) := by decide +kernel
theorem dX10_small_1 : decode cX10_small 1 = .ok (.istore_n 3, 1) := by decide +kernel
theorem dX10_small_2 : decode cX10_small 2 = .ok (.iload_n 3, 1) := by decide +kernel
theorem dX10_small_3 : decode cX10_small 3 = .ok (.iload_n 2, 1) := by decide +kernel
theorem dX10_small_4 : decode cX10_small 4 = .ok (.if_icmp .ge 13, 3) := by decide +kernel
theorem dX10_small_7 : decode cX10_small 7 = .ok (.aload_n 1, 1) := by decide +kernel
theorem dX10_small_8 : decode cX10_small 8 = .ok (.iload_n 3, 1) := by decide +kernel
theorem dX10_small_9 : decode cX10_small 9 = .ok (.iconst 0, 1) := by decide +kernel
theorem dX10_small_10 : decode cX10_small 10 = .ok (.iastore, 1) := by decide +kernel
theorem dX10_small_11 : decode cX10_small 11 = .ok (.iinc 3 1, 3) := by decide +kernel
theorem dX10_small_14 : decode cX10_small 14 = .ok (.goto (-12), 3) := by decide +kernel
theorem dX10_small_17 : decode cX10_small 17 = .ok (.aload_n 1, 1) := by decide +kernel
theorem dX10_small_18 : decode cX10_small 18 = .ok (.iconst 0, 1) := by decide +kernel
theorem dX10_small_19 : decode cX10_small 19 = .ok (.iload_n 0, 1) := by decide +kernel
theorem dX10_small_20 : decode cX10_small 20 = .ok (.iastore, 1) := by decide +kernel
theorem dX10_small_21 : decode cX10_small 21 = .ok (.return_, 1) := by decide +kernel
abbrev cX10_plus : ByteArray := prog_15_method_7_code
def yX10_plus : MethodName := ⟨RX10, "plus", "([I[I[II)I"⟩
theorem dX10_plus_0 : decode cX10_plus 0 = .ok (.lconst 0, 1) := by decide +kernel
theorem dX10_plus_1 : decode cX10_plus 1 = .ok (.lstore 4, 2) := by decide +kernel
theorem dX10_plus_3 : decode cX10_plus 3 = .ok (.iconst 0, 1) := by decide +kernel
theorem dX10_plus_4 : decode cX10_plus 4 = .ok (.istore 6, 2) := by decide +kernel
theorem dX10_plus_6 : decode cX10_plus 6 = .ok (.iload 6, 2) := by decide +kernel
theorem dX10_plus_8 : decode cX10_plus 8 = .ok (.iload_n 3, 1) := by decide +kernel
theorem dX10_plus_9 : decode cX10_plus 9 = .ok (.if_icmp .ge 43, 3) := by decide +kernel
theorem dX10_plus_12 : decode cX10_plus 12 = .ok (.lload 4, 2) := by decide +kernel
theorem dX10_plus_14 : decode cX10_plus 14 = .ok (.aload_n 0, 1) := by decide +kernel
theorem dX10_plus_15 : decode cX10_plus 15 = .ok (.iload 6, 2) := by decide +kernel
theorem dX10_plus_17 : decode cX10_plus 17 = .ok (.iaload, 1) := by decide +kernel
theorem dX10_plus_18 : decode cX10_plus 18 = .ok (.invokestatic 9, 3) := by decide +kernel
theorem dX10_plus_21 : decode cX10_plus 21 = .ok (.aload_n 1, 1) := by decide +kernel
theorem dX10_plus_22 : decode cX10_plus 22 = .ok (.iload 6, 2) := by decide +kernel
theorem dX10_plus_24 : decode cX10_plus 24 = .ok (.iaload, 1) := by decide +kernel
theorem dX10_plus_25 : decode cX10_plus 25 = .ok (.invokestatic 9, 3) := by decide +kernel
theorem dX10_plus_28 : decode cX10_plus 28 = .ok (.ladd, 1) := by decide +kernel
theorem dX10_plus_29 : decode cX10_plus 29 = .ok (.ladd, 1) := by decide +kernel
theorem dX10_plus_30 : decode cX10_plus 30 = .ok (.lstore 4, 2) := by decide +kernel
theorem dX10_plus_32 : decode cX10_plus 32 = .ok (.aload_n 2, 1) := by decide +kernel
theorem dX10_plus_33 : decode cX10_plus 33 = .ok (.iload 6, 2) := by decide +kernel
theorem dX10_plus_35 : decode cX10_plus 35 = .ok (.lload 4, 2) := by decide +kernel
theorem dX10_plus_37 : decode cX10_plus 37 = .ok (.l2i, 1) := by decide +kernel
theorem dX10_plus_38 : decode cX10_plus 38 = .ok (.iastore, 1) := by decide +kernel
theorem dX10_plus_39 : decode cX10_plus 39 = .ok (.lload 4, 2) := by decide +kernel
theorem dX10_plus_41 : decode cX10_plus 41 = .ok (.bipush 32, 2) := by decide +kernel
theorem dX10_plus_43 : decode cX10_plus 43 = .ok (.lushr, 1) := by decide +kernel
theorem dX10_plus_44 : decode cX10_plus 44 = .ok (.lstore 4, 2) := by decide +kernel
theorem dX10_plus_46 : decode cX10_plus 46 = .ok (.iinc 6 1, 3) := by decide +kernel
theorem dX10_plus_49 : decode cX10_plus 49 = .ok (.goto (-43), 3) := by decide +kernel
theorem dX10_plus_52 : decode cX10_plus 52 = .ok (.lload 4, 2) := by decide +kernel
theorem dX10_plus_54 : decode cX10_plus 54 = .ok (.l2i, 1) := by decide +kernel
theorem dX10_plus_55 : decode cX10_plus 55 = .ok (.ireturn, 1) := by decide +kernel
abbrev cX10_u : ByteArray := prog_15_method_2_code
def yX10_u : MethodName := ⟨RX10, "u", "(I)J"⟩
theorem dX10_u_0 : decode cX10_u 0 = .ok (.iload_n 0, 1) := by decide +kernel
theorem dX10_u_1 : decode cX10_u 1 = .ok (.i2l, 1) := by decide +kernel
theorem dX10_u_2 : decode cX10_u 2 = .ok (.ldc2_w 7, 3) := by decide +kernel
theorem dX10_u_5 : decode cX10_u 5 = .ok (.land, 1) := by decide +kernel
theorem dX10_u_6 : decode cX10_u 6 = .ok (.lreturn, 1) := by decide +kernel
abbrev cX10_half : ByteArray := prog_15_method_18_code
def yX10_half : MethodName := ⟨RX10, "half", "([III)V"⟩
theorem dX10_half_0 : decode cX10_half 0 = .ok (.iconst 0, 1) := by decide +kernel
theorem dX10_half_1 : decode cX10_half 1 = .ok (.istore_n 3, 1) := by decide +kernel
theorem dX10_half_2 : decode cX10_half 2 = .ok (.iload_n 3, 1) := by decide +kernel
theorem dX10_half_3 : decode cX10_half 3 = .ok (.iload_n 1, 1) := by decide +kernel
theorem dX10_half_4 : decode cX10_half 4 = .ok (.if_icmp .ge 37, 3) := by decide +kernel
theorem dX10_half_7 : decode cX10_half 7 = .ok (.aload_n 0, 1) := by decide +kernel
theorem dX10_half_8 : decode cX10_half 8 = .ok (.iload_n 3, 1) := by decide +kernel
theorem dX10_half_9 : decode cX10_half 9 = .ok (.aload_n 0, 1) := by decide +kernel
theorem dX10_half_10 : decode cX10_half 10 = .ok (.iload_n 3, 1) := by decide +kernel
theorem dX10_half_11 : decode cX10_half 11 = .ok (.iaload, 1) := by decide +kernel
theorem dX10_half_12 : decode cX10_half 12 = .ok (.iconst 1, 1) := by decide +kernel
theorem dX10_half_13 : decode cX10_half 13 = .ok (.iushr, 1) := by decide +kernel
theorem dX10_half_14 : decode cX10_half 14 = .ok (.iload_n 3, 1) := by decide +kernel
theorem dX10_half_15 : decode cX10_half 15 = .ok (.iconst 1, 1) := by decide +kernel
theorem dX10_half_16 : decode cX10_half 16 = .ok (.iadd, 1) := by decide +kernel
theorem dX10_half_17 : decode cX10_half 17 = .ok (.iload_n 1, 1) := by decide +kernel
theorem dX10_half_18 : decode cX10_half 18 = .ok (.if_icmp .ge 11, 3) := by decide +kernel
theorem dX10_half_21 : decode cX10_half 21 = .ok (.aload_n 0, 1) := by decide +kernel
theorem dX10_half_22 : decode cX10_half 22 = .ok (.iload_n 3, 1) := by decide +kernel
theorem dX10_half_23 : decode cX10_half 23 = .ok (.iconst 1, 1) := by decide +kernel
theorem dX10_half_24 : decode cX10_half 24 = .ok (.iadd, 1) := by decide +kernel
theorem dX10_half_25 : decode cX10_half 25 = .ok (.iaload, 1) := by decide +kernel
theorem dX10_half_26 : decode cX10_half 26 = .ok (.goto 4, 3) := by decide +kernel
theorem dX10_half_29 : decode cX10_half 29 = .ok (.iload_n 2, 1) := by decide +kernel
theorem dX10_half_30 : decode cX10_half 30 = .ok (.bipush 31, 2) := by decide +kernel
theorem dX10_half_32 : decode cX10_half 32 = .ok (.ishl, 1) := by decide +kernel
theorem dX10_half_33 : decode cX10_half 33 = .ok (.ior, 1) := by decide +kernel
theorem dX10_half_34 : decode cX10_half 34 = .ok (.iastore, 1) := by decide +kernel
theorem dX10_half_35 : decode cX10_half 35 = .ok (.iinc 3 1, 3) := by decide +kernel
theorem dX10_half_38 : decode cX10_half 38 = .ok (.goto (-36), 3) := by decide +kernel
theorem dX10_half_41 : decode cX10_half 41 = .ok (.return_, 1) := by decide +kernel
abbrev cX10_minus : ByteArray := prog_15_method_8_code
def yX10_minus : MethodName := ⟨RX10, "minus", "([I[I[II)I"⟩
theorem dX10_minus_0 : decode cX10_minus 0 = .ok (.lconst 0, 1) := by decide +kernel
theorem dX10_minus_1 : decode cX10_minus 1 = .ok (.lstore 4, 2) := by decide +kernel
theorem dX10_minus_3 : decode cX10_minus 3 = .ok (.iconst 0, 1) := by decide +kernel
theorem dX10_minus_4 : decode cX10_minus 4 = .ok (.istore 6, 2) := by decide +kernel
theorem dX10_minus_6 : decode cX10_minus 6 = .ok (.iload 6, 2) := by decide +kernel
theorem dX10_minus_8 : decode cX10_minus 8 = .ok (.iload_n 3, 1) := by decide +kernel
theorem dX10_minus_9 : decode cX10_minus 9 = .ok (.if_icmp .ge 43, 3) := by decide +kernel
theorem dX10_minus_12 : decode cX10_minus 12 = .ok (.lload 4, 2) := by decide +kernel
theorem dX10_minus_14 : decode cX10_minus 14 = .ok (.aload_n 0, 1) := by decide +kernel
theorem dX10_minus_15 : decode cX10_minus 15 = .ok (.iload 6, 2) := by decide +kernel
theorem dX10_minus_17 : decode cX10_minus 17 = .ok (.iaload, 1) := by decide +kernel
theorem dX10_minus_18 : decode cX10_minus 18 = .ok (.invokestatic 9, 3) := by decide +kernel
theorem dX10_minus_21 : decode cX10_minus 21 = .ok (.aload_n 1, 1) := by decide +kernel
theorem dX10_minus_22 : decode cX10_minus 22 = .ok (.iload 6, 2) := by decide +kernel
theorem dX10_minus_24 : decode cX10_minus 24 = .ok (.iaload, 1) := by decide +kernel
theorem dX10_minus_25 : decode cX10_minus 25 = .ok (.invokestatic 9, 3) := by decide +kernel
theorem dX10_minus_28 : decode cX10_minus 28 = .ok (.lsub, 1) := by decide +kernel
theorem dX10_minus_29 : decode cX10_minus 29 = .ok (.ladd, 1) := by decide +kernel
theorem dX10_minus_30 : decode cX10_minus 30 = .ok (.lstore 4, 2) := by decide +kernel
theorem dX10_minus_32 : decode cX10_minus 32 = .ok (.aload_n 2, 1) := by decide +kernel
theorem dX10_minus_33 : decode cX10_minus 33 = .ok (.iload 6, 2) := by decide +kernel
theorem dX10_minus_35 : decode cX10_minus 35 = .ok (.lload 4, 2) := by decide +kernel
theorem dX10_minus_37 : decode cX10_minus 37 = .ok (.l2i, 1) := by decide +kernel
theorem dX10_minus_38 : decode cX10_minus 38 = .ok (.iastore, 1) := by decide +kernel
theorem dX10_minus_39 : decode cX10_minus 39 = .ok (.lload 4, 2) := by decide +kernel
theorem dX10_minus_41 : decode cX10_minus 41 = .ok (.bipush 32, 2) := by decide +kernel
theorem dX10_minus_43 : decode cX10_minus 43 = .ok (.lshr, 1) := by decide +kernel
theorem dX10_minus_44 : decode cX10_minus 44 = .ok (.lstore 4, 2) := by decide +kernel
theorem dX10_minus_46 : decode cX10_minus 46 = .ok (.iinc 6 1, 3) := by decide +kernel
theorem dX10_minus_49 : decode cX10_minus 49 = .ok (.goto (-43), 3) := by decide +kernel
theorem dX10_minus_52 : decode cX10_minus 52 = .ok (.lload 4, 2) := by decide +kernel
theorem dX10_minus_54 : decode cX10_minus 54 = .ok (.l2i, 1) := by decide +kernel
theorem dX10_minus_55 : decode cX10_minus 55 = .ok (.ireturn, 1) := by decide +kernel
abbrev cX10_feed : ByteArray := prog_15_method_70_code
def yX10_feed : MethodName := ⟨RX10, "feed", "(IIIII)I"⟩
theorem dX10_feed_0 : decode cX10_feed 0 = .ok (.aload_n 0, 1) := by decide +kernel
theorem dX10_feed_1 : decode cX10_feed 1 = .ok (.iconst 0, 1) := by decide +kernel
theorem dX10_feed_2 : decode cX10_feed 2 = .ok (.putfield 1, 3) := by decide +kernel
theorem dX10_feed_5 : decode cX10_feed 5 = .ok (.aload_n 0, 1) := by decide +kernel
theorem dX10_feed_6 : decode cX10_feed 6 = .ok (.getfield 582, 3) := by decide +kernel
theorem dX10_feed_9 : decode cX10_feed 9 = .ok (.bipush 20, 2) := by decide +kernel
theorem dX10_feed_11 : decode cX10_feed 11 = .ok (.iadd, 1) := by decide +kernel
theorem dX10_feed_12 : decode cX10_feed 12 = .ok (.sipush 1200, 3) := by decide +kernel
theorem dX10_feed_15 : decode cX10_feed 15 = .ok (.if_icmp .le 5, 3) := by decide +kernel
theorem dX10_feed_18 : decode cX10_feed 18 = .ok (.iconst (-1), 1) := by decide +kernel
theorem dX10_feed_19 : decode cX10_feed 19 = .ok (.ireturn, 1) := by decide +kernel
theorem dX10_feed_20 : decode cX10_feed 20 = .ok (.aload_n 0, 1) := by decide +kernel
theorem dX10_feed_21 : decode cX10_feed 21 = .ok (.getfield 561, 3) := by decide +kernel
theorem dX10_feed_24 : decode cX10_feed 24 = .ok (.iconst 0, 1) := by decide +kernel
theorem dX10_feed_25 : decode cX10_feed 25 = .ok (.iload_n 1, 1) := by decide +kernel
theorem dX10_feed_26 : decode cX10_feed 26 = .ok (.iastore, 1) := by decide +kernel
theorem dX10_feed_27 : decode cX10_feed 27 = .ok (.aload_n 0, 1) := by decide +kernel
theorem dX10_feed_28 : decode cX10_feed 28 = .ok (.getfield 561, 3) := by decide +kernel
theorem dX10_feed_31 : decode cX10_feed 31 = .ok (.iconst 1, 1) := by decide +kernel
theorem dX10_feed_32 : decode cX10_feed 32 = .ok (.iload_n 2, 1) := by decide +kernel
theorem dX10_feed_33 : decode cX10_feed 33 = .ok (.iastore, 1) := by decide +kernel
theorem dX10_feed_34 : decode cX10_feed 34 = .ok (.aload_n 0, 1) := by decide +kernel
theorem dX10_feed_35 : decode cX10_feed 35 = .ok (.getfield 561, 3) := by decide +kernel
theorem dX10_feed_38 : decode cX10_feed 38 = .ok (.iconst 2, 1) := by decide +kernel
theorem dX10_feed_39 : decode cX10_feed 39 = .ok (.iload_n 3, 1) := by decide +kernel
theorem dX10_feed_40 : decode cX10_feed 40 = .ok (.iastore, 1) := by decide +kernel
theorem dX10_feed_41 : decode cX10_feed 41 = .ok (.aload_n 0, 1) := by decide +kernel
theorem dX10_feed_42 : decode cX10_feed 42 = .ok (.getfield 561, 3) := by decide +kernel
theorem dX10_feed_45 : decode cX10_feed 45 = .ok (.iconst 3, 1) := by decide +kernel
theorem dX10_feed_46 : decode cX10_feed 46 = .ok (.iload 4, 2) := by decide +kernel
theorem dX10_feed_48 : decode cX10_feed 48 = .ok (.iastore, 1) := by decide +kernel
theorem dX10_feed_49 : decode cX10_feed 49 = .ok (.aload_n 0, 1) := by decide +kernel
theorem dX10_feed_50 : decode cX10_feed 50 = .ok (.getfield 561, 3) := by decide +kernel
theorem dX10_feed_53 : decode cX10_feed 53 = .ok (.iconst 4, 1) := by decide +kernel
theorem dX10_feed_54 : decode cX10_feed 54 = .ok (.iload 5, 2) := by decide +kernel
theorem dX10_feed_56 : decode cX10_feed 56 = .ok (.iastore, 1) := by decide +kernel
theorem dX10_feed_57 : decode cX10_feed 57 = .ok (.iconst 0, 1) := by decide +kernel
theorem dX10_feed_58 : decode cX10_feed 58 = .ok (.istore 6, 2) := by decide +kernel
theorem dX10_feed_60 : decode cX10_feed 60 = .ok (.iload 6, 2) := by decide +kernel
theorem dX10_feed_62 : decode cX10_feed 62 = .ok (.bipush 20, 2) := by decide +kernel
theorem dX10_feed_64 : decode cX10_feed 64 = .ok (.if_icmp .ge 42, 3) := by decide +kernel
theorem dX10_feed_67 : decode cX10_feed 67 = .ok (.aload_n 0, 1) := by decide +kernel
theorem dX10_feed_68 : decode cX10_feed 68 = .ok (.getfield 534, 3) := by decide +kernel
theorem dX10_feed_71 : decode cX10_feed 71 = .ok (.aload_n 0, 1) := by decide +kernel
theorem dX10_feed_72 : decode cX10_feed 72 = .ok (.getfield 582, 3) := by decide +kernel
theorem dX10_feed_75 : decode cX10_feed 75 = .ok (.iload 6, 2) := by decide +kernel
theorem dX10_feed_77 : decode cX10_feed 77 = .ok (.iadd, 1) := by decide +kernel
theorem dX10_feed_78 : decode cX10_feed 78 = .ok (.aload_n 0, 1) := by decide +kernel
theorem dX10_feed_79 : decode cX10_feed 79 = .ok (.getfield 561, 3) := by decide +kernel
theorem dX10_feed_82 : decode cX10_feed 82 = .ok (.iload 6, 2) := by decide +kernel
theorem dX10_feed_84 : decode cX10_feed 84 = .ok (.iconst 4, 1) := by decide +kernel
theorem dX10_feed_85 : decode cX10_feed 85 = .ok (.idiv, 1) := by decide +kernel
theorem dX10_feed_86 : decode cX10_feed 86 = .ok (.iaload, 1) := by decide +kernel
theorem dX10_feed_87 : decode cX10_feed 87 = .ok (.bipush 24, 2) := by decide +kernel
theorem dX10_feed_89 : decode cX10_feed 89 = .ok (.bipush 8, 2) := by decide +kernel
theorem dX10_feed_91 : decode cX10_feed 91 = .ok (.iload 6, 2) := by decide +kernel
theorem dX10_feed_93 : decode cX10_feed 93 = .ok (.iconst 4, 1) := by decide +kernel
theorem dX10_feed_94 : decode cX10_feed 94 = .ok (.irem, 1) := by decide +kernel
theorem dX10_feed_95 : decode cX10_feed 95 = .ok (.imul, 1) := by decide +kernel
theorem dX10_feed_96 : decode cX10_feed 96 = .ok (.isub, 1) := by decide +kernel
theorem dX10_feed_97 : decode cX10_feed 97 = .ok (.ishr, 1) := by decide +kernel
theorem dX10_feed_98 : decode cX10_feed 98 = .ok (.i2b, 1) := by decide +kernel
theorem dX10_feed_99 : decode cX10_feed 99 = .ok (.bastore, 1) := by decide +kernel
theorem dX10_feed_100 : decode cX10_feed 100 = .ok (.iinc 6 1, 3) := by decide +kernel
theorem dX10_feed_103 : decode cX10_feed 103 = .ok (.goto (-43), 3) := by decide +kernel
theorem dX10_feed_106 : decode cX10_feed 106 = .ok (.aload_n 0, 1) := by decide +kernel
theorem dX10_feed_107 : decode cX10_feed 107 = .ok (.dup, 1) := by decide +kernel
theorem dX10_feed_108 : decode cX10_feed 108 = .ok (.getfield 582, 3) := by decide +kernel
theorem dX10_feed_111 : decode cX10_feed 111 = .ok (.bipush 20, 2) := by decide +kernel
theorem dX10_feed_113 : decode cX10_feed 113 = .ok (.iadd, 1) := by decide +kernel
theorem dX10_feed_114 : decode cX10_feed 114 = .ok (.putfield 582, 3) := by decide +kernel
theorem dX10_feed_117 : decode cX10_feed 117 = .ok (.aload_n 0, 1) := by decide +kernel
theorem dX10_feed_118 : decode cX10_feed 118 = .ok (.getfield 582, 3) := by decide +kernel
theorem dX10_feed_121 : decode cX10_feed 121 = .ok (.ireturn, 1) := by decide +kernel
abbrev cX10_end : ByteArray := prog_15_method_71_code
def yX10_end : MethodName := ⟨RX10, "end", "(I)Z"⟩
theorem dX10_end_0 : decode cX10_end 0 = .ok (.aload_n 0, 1) := by decide +kernel
theorem dX10_end_1 : decode cX10_end 1 = .ok (.iconst 0, 1) := by decide +kernel
theorem dX10_end_2 : decode cX10_end 2 = .ok (.putfield 1, 3) := by decide +kernel
theorem dX10_end_5 : decode cX10_end 5 = .ok (.iload_n 1, 1) := by decide +kernel
theorem dX10_end_6 : decode cX10_end 6 = .ok (.ifCond .lt 11, 3) := by decide +kernel
theorem dX10_end_9 : decode cX10_end 9 = .ok (.iload_n 1, 1) := by decide +kernel
theorem dX10_end_10 : decode cX10_end 10 = .ok (.aload_n 0, 1) := by decide +kernel
theorem dX10_end_11 : decode cX10_end 11 = .ok (.getfield 582, 3) := by decide +kernel
theorem dX10_end_14 : decode cX10_end 14 = .ok (.if_icmp .le 5, 3) := by decide +kernel
theorem dX10_end_17 : decode cX10_end 17 = .ok (.iconst 0, 1) := by decide +kernel
theorem dX10_end_18 : decode cX10_end 18 = .ok (.ireturn, 1) := by decide +kernel
theorem dX10_end_19 : decode cX10_end 19 = .ok (.aload_n 0, 1) := by decide +kernel
theorem dX10_end_20 : decode cX10_end 20 = .ok (.iload_n 1, 1) := by decide +kernel
theorem dX10_end_21 : decode cX10_end 21 = .ok (.putfield 582, 3) := by decide +kernel
theorem dX10_end_24 : decode cX10_end 24 = .ok (.iconst 1, 1) := by decide +kernel
theorem dX10_end_25 : decode cX10_end 25 = .ok (.ireturn, 1) := by decide +kernel
abbrev cX10_again : ByteArray := prog_15_method_72_code
def yX10_again : MethodName := ⟨RX10, "again", "(II)I"⟩
theorem dX10_again_0 : decode cX10_again 0 = .ok (.aload_n 0, 1) := by decide +kernel
theorem dX10_again_1 : decode cX10_again 1 = .ok (.iconst 0, 1) := by decide +kernel
theorem dX10_again_2 : decode cX10_again 2 = .ok (.putfield 1, 3) := by decide +kernel
theorem dX10_again_5 : decode cX10_again 5 = .ok (.iload_n 1, 1) := by decide +kernel
theorem dX10_again_6 : decode cX10_again 6 = .ok (.ifCond .lt 33, 3) := by decide +kernel
theorem dX10_again_9 : decode cX10_again 9 = .ok (.iload_n 2, 1) := by decide +kernel
theorem dX10_again_10 : decode cX10_again 10 = .ok (.ifCond .lt 29, 3) := by decide +kernel
theorem dX10_again_13 : decode cX10_again 13 = .ok (.iload_n 1, 1) := by decide +kernel
theorem dX10_again_14 : decode cX10_again 14 = .ok (.i2l, 1) := by decide +kernel
theorem dX10_again_15 : decode cX10_again 15 = .ok (.iload_n 2, 1) := by decide +kernel
theorem dX10_again_16 : decode cX10_again 16 = .ok (.i2l, 1) := by decide +kernel
theorem dX10_again_17 : decode cX10_again 17 = .ok (.ladd, 1) := by decide +kernel
theorem dX10_again_18 : decode cX10_again 18 = .ok (.aload_n 0, 1) := by decide +kernel
theorem dX10_again_19 : decode cX10_again 19 = .ok (.getfield 606, 3) := by decide +kernel
theorem dX10_again_22 : decode cX10_again 22 = .ok (.i2l, 1) := by decide +kernel
theorem dX10_again_23 : decode cX10_again 23 = .ok (.lcmp, 1) := by decide +kernel
theorem dX10_again_24 : decode cX10_again 24 = .ok (.ifCond .gt 15, 3) := by decide +kernel
theorem dX10_again_27 : decode cX10_again 27 = .ok (.aload_n 0, 1) := by decide +kernel
theorem dX10_again_28 : decode cX10_again 28 = .ok (.getfield 582, 3) := by decide +kernel
theorem dX10_again_31 : decode cX10_again 31 = .ok (.iload_n 2, 1) := by decide +kernel
theorem dX10_again_32 : decode cX10_again 32 = .ok (.iadd, 1) := by decide +kernel
theorem dX10_again_33 : decode cX10_again 33 = .ok (.sipush 1200, 3) := by decide +kernel
theorem dX10_again_36 : decode cX10_again 36 = .ok (.if_icmp .le 5, 3) := by decide +kernel
theorem dX10_again_39 : decode cX10_again 39 = .ok (.iconst (-1), 1) := by decide +kernel
theorem dX10_again_40 : decode cX10_again 40 = .ok (.ireturn, 1) := by decide +kernel
theorem dX10_again_41 : decode cX10_again 41 = .ok (.iconst 0, 1) := by decide +kernel
theorem dX10_again_42 : decode cX10_again 42 = .ok (.istore_n 3, 1) := by decide +kernel
theorem dX10_again_43 : decode cX10_again 43 = .ok (.iload_n 3, 1) := by decide +kernel
theorem dX10_again_44 : decode cX10_again 44 = .ok (.iload_n 2, 1) := by decide +kernel
theorem dX10_again_45 : decode cX10_again 45 = .ok (.if_icmp .ge 28, 3) := by decide +kernel
theorem dX10_again_48 : decode cX10_again 48 = .ok (.aload_n 0, 1) := by decide +kernel
theorem dX10_again_49 : decode cX10_again 49 = .ok (.getfield 534, 3) := by decide +kernel
theorem dX10_again_52 : decode cX10_again 52 = .ok (.aload_n 0, 1) := by decide +kernel
theorem dX10_again_53 : decode cX10_again 53 = .ok (.getfield 582, 3) := by decide +kernel
theorem dX10_again_56 : decode cX10_again 56 = .ok (.iload_n 3, 1) := by decide +kernel
theorem dX10_again_57 : decode cX10_again 57 = .ok (.iadd, 1) := by decide +kernel
theorem dX10_again_58 : decode cX10_again 58 = .ok (.aload_n 0, 1) := by decide +kernel
theorem dX10_again_59 : decode cX10_again 59 = .ok (.getfield 537, 3) := by decide +kernel
theorem dX10_again_62 : decode cX10_again 62 = .ok (.iload_n 1, 1) := by decide +kernel
theorem dX10_again_63 : decode cX10_again 63 = .ok (.iload_n 3, 1) := by decide +kernel
theorem dX10_again_64 : decode cX10_again 64 = .ok (.iadd, 1) := by decide +kernel
theorem dX10_again_65 : decode cX10_again 65 = .ok (.baload, 1) := by decide +kernel
theorem dX10_again_66 : decode cX10_again 66 = .ok (.bastore, 1) := by decide +kernel
theorem dX10_again_67 : decode cX10_again 67 = .ok (.iinc 3 1, 3) := by decide +kernel
theorem dX10_again_70 : decode cX10_again 70 = .ok (.goto (-27), 3) := by decide +kernel
theorem dX10_again_73 : decode cX10_again 73 = .ok (.aload_n 0, 1) := by decide +kernel
theorem dX10_again_74 : decode cX10_again 74 = .ok (.dup, 1) := by decide +kernel
theorem dX10_again_75 : decode cX10_again 75 = .ok (.getfield 582, 3) := by decide +kernel
theorem dX10_again_78 : decode cX10_again 78 = .ok (.iload_n 2, 1) := by decide +kernel
theorem dX10_again_79 : decode cX10_again 79 = .ok (.iadd, 1) := by decide +kernel
theorem dX10_again_80 : decode cX10_again 80 = .ok (.putfield 582, 3) := by decide +kernel
theorem dX10_again_83 : decode cX10_again 83 = .ok (.aload_n 0, 1) := by decide +kernel
theorem dX10_again_84 : decode cX10_again 84 = .ok (.getfield 582, 3) := by decide +kernel
theorem dX10_again_87 : decode cX10_again 87 = .ok (.ireturn, 1) := by decide +kernel
abbrev cX10_out : ByteArray := prog_15_method_73_code
def yX10_out : MethodName := ⟨RX10, "out", "(I)I"⟩
theorem dX10_out_0 : decode cX10_out 0 = .ok (.aload_n 0, 1) := by decide +kernel
theorem dX10_out_1 : decode cX10_out 1 = .ok (.iconst 0, 1) := by decide +kernel
theorem dX10_out_2 : decode cX10_out 2 = .ok (.putfield 1, 3) := by decide +kernel
theorem dX10_out_5 : decode cX10_out 5 = .ok (.iload_n 1, 1) := by decide +kernel
theorem dX10_out_6 : decode cX10_out 6 = .ok (.ifCond .lt 11, 3) := by decide +kernel
theorem dX10_out_9 : decode cX10_out 9 = .ok (.iload_n 1, 1) := by decide +kernel
theorem dX10_out_10 : decode cX10_out 10 = .ok (.aload_n 0, 1) := by decide +kernel
theorem dX10_out_11 : decode cX10_out 11 = .ok (.getfield 606, 3) := by decide +kernel
theorem dX10_out_14 : decode cX10_out 14 = .ok (.if_icmp .lt 7, 3) := by decide +kernel
theorem dX10_out_17 : decode cX10_out 17 = .ok (.iconst (-1), 1) := by decide +kernel
theorem dX10_out_18 : decode cX10_out 18 = .ok (.goto 13, 3) := by decide +kernel
theorem dX10_out_21 : decode cX10_out 21 = .ok (.aload_n 0, 1) := by decide +kernel
theorem dX10_out_22 : decode cX10_out 22 = .ok (.getfield 537, 3) := by decide +kernel
theorem dX10_out_25 : decode cX10_out 25 = .ok (.iload_n 1, 1) := by decide +kernel
theorem dX10_out_26 : decode cX10_out 26 = .ok (.baload, 1) := by decide +kernel
theorem dX10_out_27 : decode cX10_out 27 = .ok (.sipush 255, 3) := by decide +kernel
theorem dX10_out_30 : decode cX10_out 30 = .ok (.iand, 1) := by decide +kernel
theorem dX10_out_31 : decode cX10_out 31 = .ok (.ireturn, 1) := by decide +kernel
abbrev cX10_outs : ByteArray := prog_15_method_74_code
def yX10_outs : MethodName := ⟨RX10, "outs", "()I"⟩
theorem dX10_outs_0 : decode cX10_outs 0 = .ok (.aload_n 0, 1) := by decide +kernel
theorem dX10_outs_1 : decode cX10_outs 1 = .ok (.iconst 0, 1) := by decide +kernel
theorem dX10_outs_2 : decode cX10_outs 2 = .ok (.putfield 1, 3) := by decide +kernel
theorem dX10_outs_5 : decode cX10_outs 5 = .ok (.aload_n 0, 1) := by decide +kernel
theorem dX10_outs_6 : decode cX10_outs 6 = .ok (.getfield 606, 3) := by decide +kernel
theorem dX10_outs_9 : decode cX10_outs 9 = .ok (.ireturn, 1) := by decide +kernel
abbrev cX10_key : ByteArray := prog_15_method_76_code
def yX10_key : MethodName := ⟨RX10, "key", "(I)I"⟩
theorem dX10_key_0 : decode cX10_key 0 = .ok (.aload_n 0, 1) := by decide +kernel
theorem dX10_key_1 : decode cX10_key 1 = .ok (.invokevirtual 612, 3) := by decide +kernel
theorem dX10_key_4 : decode cX10_key 4 = .ok (.istore_n 2, 1) := by decide +kernel
theorem dX10_key_5 : decode cX10_key 5 = .ok (.iload_n 1, 1) := by decide +kernel
theorem dX10_key_6 : decode cX10_key 6 = .ok (.iconst 1, 1) := by decide +kernel
theorem dX10_key_7 : decode cX10_key 7 = .ok (.if_icmp .ne 9, 3) := by decide +kernel
theorem dX10_key_10 : decode cX10_key 10 = .ok (.aload_n 0, 1) := by decide +kernel
theorem dX10_key_11 : decode cX10_key 11 = .ok (.iload_n 2, 1) := by decide +kernel
theorem dX10_key_12 : decode cX10_key 12 = .ok (.invokevirtual 615, 3) := by decide +kernel
theorem dX10_key_15 : decode cX10_key 15 = .ok (.ireturn, 1) := by decide +kernel
theorem dX10_key_16 : decode cX10_key 16 = .ok (.iload_n 1, 1) := by decide +kernel
theorem dX10_key_17 : decode cX10_key 17 = .ok (.iconst 2, 1) := by decide +kernel
theorem dX10_key_18 : decode cX10_key 18 = .ok (.if_icmp .ne 9, 3) := by decide +kernel
theorem dX10_key_21 : decode cX10_key 21 = .ok (.aload_n 0, 1) := by decide +kernel
theorem dX10_key_22 : decode cX10_key 22 = .ok (.iload_n 2, 1) := by decide +kernel
theorem dX10_key_23 : decode cX10_key 23 = .ok (.invokevirtual 619, 3) := by decide +kernel
theorem dX10_key_26 : decode cX10_key 26 = .ok (.ireturn, 1) := by decide +kernel
theorem dX10_key_27 : decode cX10_key 27 = .ok (.bipush (-2), 2) := by decide +kernel
theorem dX10_key_29 : decode cX10_key 29 = .ok (.ireturn, 1) := by decide +kernel
abbrev cX10_used : ByteArray := prog_15_method_62_code
def yX10_used : MethodName := ⟨RX10, "used", "()I"⟩
theorem dX10_used_0 : decode cX10_used 0 = .ok (.aload_n 0, 1) := by decide +kernel
theorem dX10_used_1 : decode cX10_used 1 = .ok (.iconst 0, 1) := by decide +kernel
theorem dX10_used_2 : decode cX10_used 2 = .ok (.putfield 1, 3) := by decide +kernel
theorem dX10_used_5 : decode cX10_used 5 = .ok (.aload_n 0, 1) := by decide +kernel
theorem dX10_used_6 : decode cX10_used 6 = .ok (.getfield 582, 3) := by decide +kernel
theorem dX10_used_9 : decode cX10_used 9 = .ok (.istore_n 1, 1) := by decide +kernel
theorem dX10_used_10 : decode cX10_used 10 = .ok (.aload_n 0, 1) := by decide +kernel
theorem dX10_used_11 : decode cX10_used 11 = .ok (.iconst 0, 1) := by decide +kernel
theorem dX10_used_12 : decode cX10_used 12 = .ok (.putfield 582, 3) := by decide +kernel
theorem dX10_used_15 : decode cX10_used 15 = .ok (.iload_n 1, 1) := by decide +kernel
theorem dX10_used_16 : decode cX10_used 16 = .ok (.ireturn, 1) := by decide +kernel
abbrev cX10_keyOne : ByteArray := prog_15_method_77_code
def yX10_keyOne : MethodName := ⟨RX10, "keyOne", "(I)I"⟩
theorem dX10_keyOne_0 : decode cX10_keyOne 0 = .ok (.aload_n 0, 1) := by decide +kernel
theorem dX10_keyOne_1 : decode cX10_keyOne 1 = .ok (.getfield 534, 3) := by decide +kernel
theorem dX10_keyOne_4 : decode cX10_keyOne 4 = .ok (.iconst 0, 1) := by decide +kernel
theorem dX10_keyOne_5 : decode cX10_keyOne 5 = .ok (.bipush 48, 2) := by decide +kernel
theorem dX10_keyOne_7 : decode cX10_keyOne 7 = .ok (.aload_n 0, 1) := by decide +kernel
theorem dX10_keyOne_8 : decode cX10_keyOne 8 = .ok (.getfield 437, 3) := by decide +kernel
theorem dX10_keyOne_11 : decode cX10_keyOne 11 = .ok (.bipush 12, 2) := by decide +kernel
theorem dX10_keyOne_13 : decode cX10_keyOne 13 = .ok (.invokestatic 217, 3) := by decide +kernel
theorem dX10_keyOne_16 : decode cX10_keyOne 16 = .ok (.iload_n 1, 1) := by decide +kernel
theorem dX10_keyOne_17 : decode cX10_keyOne 17 = .ok (.bipush 48, 2) := by decide +kernel
theorem dX10_keyOne_19 : decode cX10_keyOne 19 = .ok (.if_icmp .ne 13, 3) := by decide +kernel
theorem dX10_keyOne_22 : decode cX10_keyOne 22 = .ok (.aload_n 0, 1) := by decide +kernel
theorem dX10_keyOne_23 : decode cX10_keyOne 23 = .ok (.getfield 437, 3) := by decide +kernel
theorem dX10_keyOne_26 : decode cX10_keyOne 26 = .ok (.invokestatic 622, 3) := by decide +kernel
theorem dX10_keyOne_29 : decode cX10_keyOne 29 = .ok (.ifCond .ne 6, 3) := by decide +kernel
theorem dX10_keyOne_32 : decode cX10_keyOne 32 = .ok (.bipush (-2), 2) := by decide +kernel
theorem dX10_keyOne_34 : decode cX10_keyOne 34 = .ok (.ireturn, 1) := by decide +kernel
theorem dX10_keyOne_35 : decode cX10_keyOne 35 = .ok (.aload_n 0, 1) := by decide +kernel
theorem dX10_keyOne_36 : decode cX10_keyOne 36 = .ok (.getfield 626, 3) := by decide +kernel
theorem dX10_keyOne_39 : decode cX10_keyOne 39 = .ok (.bipush 6, 2) := by decide +kernel
theorem dX10_keyOne_41 : decode cX10_keyOne 41 = .ok (.if_icmp .ne 6, 3) := by decide +kernel
theorem dX10_keyOne_44 : decode cX10_keyOne 44 = .ok (.bipush (-6), 2) := by decide +kernel
theorem dX10_keyOne_46 : decode cX10_keyOne 46 = .ok (.ireturn, 1) := by decide +kernel
theorem dX10_keyOne_47 : decode cX10_keyOne 47 = .ok (.aload_n 0, 1) := by decide +kernel
theorem dX10_keyOne_48 : decode cX10_keyOne 48 = .ok (.getfield 437, 3) := by decide +kernel
theorem dX10_keyOne_51 : decode cX10_keyOne 51 = .ok (.aload_n 0, 1) := by decide +kernel
theorem dX10_keyOne_52 : decode cX10_keyOne 52 = .ok (.getfield 475, 3) := by decide +kernel
theorem dX10_keyOne_55 : decode cX10_keyOne 55 = .ok (.aload_n 0, 1) := by decide +kernel
theorem dX10_keyOne_56 : decode cX10_keyOne 56 = .ok (.getfield 626, 3) := by decide +kernel
theorem dX10_keyOne_59 : decode cX10_keyOne 59 = .ok (.aaload, 1) := by decide +kernel
theorem dX10_keyOne_60 : decode cX10_keyOne 60 = .ok (.bipush 12, 2) := by decide +kernel
theorem dX10_keyOne_62 : decode cX10_keyOne 62 = .ok (.invokestatic 91, 3) := by decide +kernel
theorem dX10_keyOne_65 : decode cX10_keyOne 65 = .ok (.aload_n 0, 1) := by decide +kernel
theorem dX10_keyOne_66 : decode cX10_keyOne 66 = .ok (.aload_n 0, 1) := by decide +kernel
theorem dX10_keyOne_67 : decode cX10_keyOne 67 = .ok (.getfield 437, 3) := by decide +kernel
theorem dX10_keyOne_70 : decode cX10_keyOne 70 = .ok (.aload_n 0, 1) := by decide +kernel
theorem dX10_keyOne_71 : decode cX10_keyOne 71 = .ok (.getfield 465, 3) := by decide +kernel
theorem dX10_keyOne_74 : decode cX10_keyOne 74 = .ok (.aload_n 0, 1) := by decide +kernel
theorem dX10_keyOne_75 : decode cX10_keyOne 75 = .ok (.getfield 458, 3) := by decide +kernel
theorem dX10_keyOne_78 : decode cX10_keyOne 78 = .ok (.aload_n 0, 1) := by decide +kernel
theorem dX10_keyOne_79 : decode cX10_keyOne 79 = .ok (.getfield 626, 3) := by decide +kernel
theorem dX10_keyOne_82 : decode cX10_keyOne 82 = .ok (.aaload, 1) := by decide +kernel
theorem dX10_keyOne_83 : decode cX10_keyOne 83 = .ok (.invokevirtual 446, 3) := by decide +kernel
theorem dX10_keyOne_86 : decode cX10_keyOne 86 = .ok (.aload_n 0, 1) := by decide +kernel
theorem dX10_keyOne_87 : decode cX10_keyOne 87 = .ok (.getfield 510, 3) := by decide +kernel
theorem dX10_keyOne_90 : decode cX10_keyOne 90 = .ok (.aload_n 0, 1) := by decide +kernel
theorem dX10_keyOne_91 : decode cX10_keyOne 91 = .ok (.getfield 626, 3) := by decide +kernel
theorem dX10_keyOne_94 : decode cX10_keyOne 94 = .ok (.bipush 48, 2) := by decide +kernel
theorem dX10_keyOne_96 : decode cX10_keyOne 96 = .ok (.iastore, 1) := by decide +kernel
theorem dX10_keyOne_97 : decode cX10_keyOne 97 = .ok (.aload_n 0, 1) := by decide +kernel
theorem dX10_keyOne_98 : decode cX10_keyOne 98 = .ok (.iconst 1, 1) := by decide +kernel
theorem dX10_keyOne_99 : decode cX10_keyOne 99 = .ok (.invokevirtual 629, 3) := by decide +kernel
theorem dX10_keyOne_102 : decode cX10_keyOne 102 = .ok (.ireturn, 1) := by decide +kernel
abbrev cX10_load : ByteArray := prog_15_method_22_code
def yX10_load : MethodName := ⟨RX10, "load", "([BII[II)V"⟩
theorem dX10_load_0 : decode cX10_load 0 = .ok (.iconst 0, 1) := by decide +kernel
theorem dX10_load_1 : decode cX10_load 1 = .ok (.istore 5, 2) := by decide +kernel
theorem dX10_load_3 : decode cX10_load 3 = .ok (.iload 5, 2) := by decide +kernel
theorem dX10_load_5 : decode cX10_load 5 = .ok (.iload 4, 2) := by decide +kernel
theorem dX10_load_7 : decode cX10_load 7 = .ok (.if_icmp .ge 14, 3) := by decide +kernel
theorem dX10_load_10 : decode cX10_load 10 = .ok (.aload_n 3, 1) := by decide +kernel
theorem dX10_load_11 : decode cX10_load 11 = .ok (.iload 5, 2) := by decide +kernel
theorem dX10_load_13 : decode cX10_load 13 = .ok (.iconst 0, 1) := by decide +kernel
theorem dX10_load_14 : decode cX10_load 14 = .ok (.iastore, 1) := by decide +kernel
theorem dX10_load_15 : decode cX10_load 15 = .ok (.iinc 5 1, 3) := by decide +kernel
theorem dX10_load_18 : decode cX10_load 18 = .ok (.goto (-15), 3) := by decide +kernel
theorem dX10_load_21 : decode cX10_load 21 = .ok (.iconst 0, 1) := by decide +kernel
theorem dX10_load_22 : decode cX10_load 22 = .ok (.istore 5, 2) := by decide +kernel
theorem dX10_load_24 : decode cX10_load 24 = .ok (.iload 5, 2) := by decide +kernel
theorem dX10_load_26 : decode cX10_load 26 = .ok (.iload_n 2, 1) := by decide +kernel
theorem dX10_load_27 : decode cX10_load 27 = .ok (.if_icmp .ge 40, 3) := by decide +kernel
theorem dX10_load_30 : decode cX10_load 30 = .ok (.aload_n 3, 1) := by decide +kernel
theorem dX10_load_31 : decode cX10_load 31 = .ok (.iload 5, 2) := by decide +kernel
theorem dX10_load_33 : decode cX10_load 33 = .ok (.iconst 4, 1) := by decide +kernel
theorem dX10_load_34 : decode cX10_load 34 = .ok (.idiv, 1) := by decide +kernel
theorem dX10_load_35 : decode cX10_load 35 = .ok (.dup2, 1) := by decide +kernel
theorem dX10_load_36 : decode cX10_load 36 = .ok (.iaload, 1) := by decide +kernel
theorem dX10_load_37 : decode cX10_load 37 = .ok (.aload_n 0, 1) := by decide +kernel
theorem dX10_load_38 : decode cX10_load 38 = .ok (.iload_n 1, 1) := by decide +kernel
theorem dX10_load_39 : decode cX10_load 39 = .ok (.iload_n 2, 1) := by decide +kernel
theorem dX10_load_40 : decode cX10_load 40 = .ok (.iadd, 1) := by decide +kernel
theorem dX10_load_41 : decode cX10_load 41 = .ok (.iconst 1, 1) := by decide +kernel
theorem dX10_load_42 : decode cX10_load 42 = .ok (.isub, 1) := by decide +kernel
theorem dX10_load_43 : decode cX10_load 43 = .ok (.iload 5, 2) := by decide +kernel
theorem dX10_load_45 : decode cX10_load 45 = .ok (.isub, 1) := by decide +kernel
theorem dX10_load_46 : decode cX10_load 46 = .ok (.baload, 1) := by decide +kernel
theorem dX10_load_47 : decode cX10_load 47 = .ok (.sipush 255, 3) := by decide +kernel
theorem dX10_load_50 : decode cX10_load 50 = .ok (.iand, 1) := by decide +kernel
theorem dX10_load_51 : decode cX10_load 51 = .ok (.bipush 8, 2) := by decide +kernel
theorem dX10_load_53 : decode cX10_load 53 = .ok (.iload 5, 2) := by decide +kernel
theorem dX10_load_55 : decode cX10_load 55 = .ok (.iconst 4, 1) := by decide +kernel
theorem dX10_load_56 : decode cX10_load 56 = .ok (.irem, 1) := by decide +kernel
theorem dX10_load_57 : decode cX10_load 57 = .ok (.imul, 1) := by decide +kernel
theorem dX10_load_58 : decode cX10_load 58 = .ok (.ishl, 1) := by decide +kernel
theorem dX10_load_59 : decode cX10_load 59 = .ok (.ior, 1) := by decide +kernel
theorem dX10_load_60 : decode cX10_load 60 = .ok (.iastore, 1) := by decide +kernel
theorem dX10_load_61 : decode cX10_load 61 = .ok (.iinc 5 1, 3) := by decide +kernel
theorem dX10_load_64 : decode cX10_load 64 = .ok (.goto (-40), 3) := by decide +kernel
theorem dX10_load_67 : decode cX10_load 67 = .ok (.return_, 1) := by decide +kernel
abbrev cX10_isSecret : ByteArray := prog_15_method_34_code
def yX10_isSecret : MethodName := ⟨RX10, "isSecret", "([I)Z"⟩
theorem dX10_isSecret_0 : decode cX10_isSecret 0 = .ok (.aload_n 0, 1) := by decide +kernel
theorem dX10_isSecret_1 : decode cX10_isSecret 1 = .ok (.bipush 12, 2) := by decide +kernel
theorem dX10_isSecret_3 : decode cX10_isSecret 3 = .ok (.invokestatic 122, 3) := by decide +kernel
theorem dX10_isSecret_6 : decode cX10_isSecret 6 = .ok (.ifCond .ne 19, 3) := by decide +kernel
theorem dX10_isSecret_9 : decode cX10_isSecret 9 = .ok (.aload_n 0, 1) := by decide +kernel
theorem dX10_isSecret_10 : decode cX10_isSecret 10 = .ok (.getstatic 236, 3) := by decide +kernel
theorem dX10_isSecret_13 : decode cX10_isSecret 13 = .ok (.bipush 12, 2) := by decide +kernel
theorem dX10_isSecret_15 : decode cX10_isSecret 15 = .ok (.invokestatic 26, 3) := by decide +kernel
theorem dX10_isSecret_18 : decode cX10_isSecret 18 = .ok (.ifCond .ge 7, 3) := by decide +kernel
theorem dX10_isSecret_21 : decode cX10_isSecret 21 = .ok (.iconst 1, 1) := by decide +kernel
theorem dX10_isSecret_22 : decode cX10_isSecret 22 = .ok (.goto 4, 3) := by decide +kernel
theorem dX10_isSecret_25 : decode cX10_isSecret 25 = .ok (.iconst 0, 1) := by decide +kernel
theorem dX10_isSecret_26 : decode cX10_isSecret 26 = .ok (.ireturn, 1) := by decide +kernel
abbrev cX10_isZero : ByteArray := prog_15_method_4_code
def yX10_isZero : MethodName := ⟨RX10, "isZero", "([II)Z"⟩
theorem dX10_isZero_0 : decode cX10_isZero 0 = .ok (.iconst 1, 1) := by decide +kernel
theorem dX10_isZero_1 : decode cX10_isZero 1 = .ok (.istore_n 2, 1) := by decide +kernel
theorem dX10_isZero_2 : decode cX10_isZero 2 = .ok (.iconst 0, 1) := by decide +kernel
theorem dX10_isZero_3 : decode cX10_isZero 3 = .ok (.istore_n 3, 1) := by decide +kernel
theorem dX10_isZero_4 : decode cX10_isZero 4 = .ok (.iload_n 3, 1) := by decide +kernel
theorem dX10_isZero_5 : decode cX10_isZero 5 = .ok (.iload_n 1, 1) := by decide +kernel
theorem dX10_isZero_6 : decode cX10_isZero 6 = .ok (.if_icmp .ge 25, 3) := by decide +kernel
theorem dX10_isZero_9 : decode cX10_isZero 9 = .ok (.iload_n 2, 1) := by decide +kernel
theorem dX10_isZero_10 : decode cX10_isZero 10 = .ok (.ifCond .eq 13, 3) := by decide +kernel
theorem dX10_isZero_13 : decode cX10_isZero 13 = .ok (.aload_n 0, 1) := by decide +kernel
theorem dX10_isZero_14 : decode cX10_isZero 14 = .ok (.iload_n 3, 1) := by decide +kernel
theorem dX10_isZero_15 : decode cX10_isZero 15 = .ok (.iaload, 1) := by decide +kernel
theorem dX10_isZero_16 : decode cX10_isZero 16 = .ok (.ifCond .ne 7, 3) := by decide +kernel
theorem dX10_isZero_19 : decode cX10_isZero 19 = .ok (.iconst 1, 1) := by decide +kernel
theorem dX10_isZero_20 : decode cX10_isZero 20 = .ok (.goto 4, 3) := by decide +kernel
theorem dX10_isZero_23 : decode cX10_isZero 23 = .ok (.iconst 0, 1) := by decide +kernel
theorem dX10_isZero_24 : decode cX10_isZero 24 = .ok (.istore_n 2, 1) := by decide +kernel
theorem dX10_isZero_25 : decode cX10_isZero 25 = .ok (.iinc 3 1, 3) := by decide +kernel
theorem dX10_isZero_28 : decode cX10_isZero 28 = .ok (.goto (-24), 3) := by decide +kernel
theorem dX10_isZero_31 : decode cX10_isZero 31 = .ok (.iload_n 2, 1) := by decide +kernel
theorem dX10_isZero_32 : decode cX10_isZero 32 = .ok (.ireturn, 1) := by decide +kernel
abbrev cX10_compare : ByteArray := prog_15_method_3_code
def yX10_compare : MethodName := ⟨RX10, "compare", "([I[II)I"⟩
theorem dX10_compare_0 : decode cX10_compare 0 = .ok (.iload_n 2, 1) := by decide +kernel
theorem dX10_compare_1 : decode cX10_compare 1 = .ok (.iconst 1, 1) := by decide +kernel
theorem dX10_compare_2 : decode cX10_compare 2 = .ok (.isub, 1) := by decide +kernel
theorem dX10_compare_3 : decode cX10_compare 3 = .ok (.istore_n 3, 1) := by decide +kernel
theorem dX10_compare_4 : decode cX10_compare 4 = .ok (.iload_n 3, 1) := by decide +kernel
theorem dX10_compare_5 : decode cX10_compare 5 = .ok (.ifCond .lt 40, 3) := by decide +kernel
theorem dX10_compare_8 : decode cX10_compare 8 = .ok (.aload_n 0, 1) := by decide +kernel
theorem dX10_compare_9 : decode cX10_compare 9 = .ok (.iload_n 3, 1) := by decide +kernel
theorem dX10_compare_10 : decode cX10_compare 10 = .ok (.iaload, 1) := by decide +kernel
theorem dX10_compare_11 : decode cX10_compare 11 = .ok (.aload_n 1, 1) := by decide +kernel
theorem dX10_compare_12 : decode cX10_compare 12 = .ok (.iload_n 3, 1) := by decide +kernel
theorem dX10_compare_13 : decode cX10_compare 13 = .ok (.iaload, 1) := by decide +kernel
theorem dX10_compare_14 : decode cX10_compare 14 = .ok (.if_icmp .eq 25, 3) := by decide +kernel
theorem dX10_compare_17 : decode cX10_compare 17 = .ok (.aload_n 0, 1) := by decide +kernel
theorem dX10_compare_18 : decode cX10_compare 18 = .ok (.iload_n 3, 1) := by decide +kernel
theorem dX10_compare_19 : decode cX10_compare 19 = .ok (.iaload, 1) := by decide +kernel
theorem dX10_compare_20 : decode cX10_compare 20 = .ok (.invokestatic 9, 3) := by decide +kernel
theorem dX10_compare_23 : decode cX10_compare 23 = .ok (.aload_n 1, 1) := by decide +kernel
theorem dX10_compare_24 : decode cX10_compare 24 = .ok (.iload_n 3, 1) := by decide +kernel
theorem dX10_compare_25 : decode cX10_compare 25 = .ok (.iaload, 1) := by decide +kernel
theorem dX10_compare_26 : decode cX10_compare 26 = .ok (.invokestatic 9, 3) := by decide +kernel
theorem dX10_compare_29 : decode cX10_compare 29 = .ok (.lcmp, 1) := by decide +kernel
theorem dX10_compare_30 : decode cX10_compare 30 = .ok (.ifCond .ge 7, 3) := by decide +kernel
theorem dX10_compare_33 : decode cX10_compare 33 = .ok (.iconst (-1), 1) := by decide +kernel
theorem dX10_compare_34 : decode cX10_compare 34 = .ok (.goto 4, 3) := by decide +kernel
theorem dX10_compare_37 : decode cX10_compare 37 = .ok (.iconst 1, 1) := by decide +kernel
theorem dX10_compare_38 : decode cX10_compare 38 = .ok (.ireturn, 1) := by decide +kernel
theorem dX10_compare_39 : decode cX10_compare 39 = .ok (.iinc 3 (-1), 3) := by decide +kernel
theorem dX10_compare_42 : decode cX10_compare 42 = .ok (.goto (-38), 3) := by decide +kernel
theorem dX10_compare_45 : decode cX10_compare 45 = .ok (.iconst 0, 1) := by decide +kernel
theorem dX10_compare_46 : decode cX10_compare 46 = .ok (.ireturn, 1) := by decide +kernel
abbrev cX10_multiply : ByteArray := prog_15_method_28_code
def yX10_multiply : MethodName := ⟨RX10, "multiply", "([ILVeilMintModel$Spot;LVeilMintModel$Spot;)V"⟩
theorem dX10_multiply_0 : decode cX10_multiply 0 = .ok (.aload_n 0, 1) := by decide +kernel
theorem dX10_multiply_1 : decode cX10_multiply 1 = .ok (.getfield 192, 3) := by decide +kernel
theorem dX10_multiply_4 : decode cX10_multiply 4 = .ok (.aload_n 2, 1) := by decide +kernel
theorem dX10_multiply_5 : decode cX10_multiply 5 = .ok (.invokevirtual 142, 3) := by decide +kernel
theorem dX10_multiply_8 : decode cX10_multiply 8 = .ok (.iconst 0, 1) := by decide +kernel
theorem dX10_multiply_9 : decode cX10_multiply 9 = .ok (.istore 4, 2) := by decide +kernel
theorem dX10_multiply_11 : decode cX10_multiply 11 = .ok (.sipush 383, 3) := by decide +kernel
theorem dX10_multiply_14 : decode cX10_multiply 14 = .ok (.istore 5, 2) := by decide +kernel
theorem dX10_multiply_16 : decode cX10_multiply 16 = .ok (.iload 5, 2) := by decide +kernel
theorem dX10_multiply_18 : decode cX10_multiply 18 = .ok (.ifCond .lt 108, 3) := by decide +kernel
theorem dX10_multiply_21 : decode cX10_multiply 21 = .ok (.aload_n 0, 1) := by decide +kernel
theorem dX10_multiply_22 : decode cX10_multiply 22 = .ok (.getfield 192, 3) := by decide +kernel
theorem dX10_multiply_25 : decode cX10_multiply 25 = .ok (.getfield 136, 3) := by decide +kernel
theorem dX10_multiply_28 : decode cX10_multiply 28 = .ok (.ifCond .ne 98, 3) := by decide +kernel
theorem dX10_multiply_31 : decode cX10_multiply 31 = .ok (.iload 4, 2) := by decide +kernel
theorem dX10_multiply_33 : decode cX10_multiply 33 = .ok (.ifCond .eq 7, 3) := by decide +kernel
theorem dX10_multiply_36 : decode cX10_multiply 36 = .ok (.aload_n 0, 1) := by decide +kernel
theorem dX10_multiply_37 : decode cX10_multiply 37 = .ok (.invokevirtual 196, 3) := by decide +kernel
theorem dX10_multiply_40 : decode cX10_multiply 40 = .ok (.aload_n 1, 1) := by decide +kernel
theorem dX10_multiply_41 : decode cX10_multiply 41 = .ok (.iload 5, 2) := by decide +kernel
theorem dX10_multiply_43 : decode cX10_multiply 43 = .ok (.bipush 32, 2) := by decide +kernel
theorem dX10_multiply_45 : decode cX10_multiply 45 = .ok (.idiv, 1) := by decide +kernel
theorem dX10_multiply_46 : decode cX10_multiply 46 = .ok (.iaload, 1) := by decide +kernel
theorem dX10_multiply_47 : decode cX10_multiply 47 = .ok (.iload 5, 2) := by decide +kernel
theorem dX10_multiply_49 : decode cX10_multiply 49 = .ok (.bipush 32, 2) := by decide +kernel
theorem dX10_multiply_51 : decode cX10_multiply 51 = .ok (.irem, 1) := by decide +kernel
theorem dX10_multiply_52 : decode cX10_multiply 52 = .ok (.iushr, 1) := by decide +kernel
theorem dX10_multiply_53 : decode cX10_multiply 53 = .ok (.iconst 1, 1) := by decide +kernel
theorem dX10_multiply_54 : decode cX10_multiply 54 = .ok (.iand, 1) := by decide +kernel
theorem dX10_multiply_55 : decode cX10_multiply 55 = .ok (.ifCond .ne 6, 3) := by decide +kernel
theorem dX10_multiply_58 : decode cX10_multiply 58 = .ok (.goto 62, 3) := by decide +kernel
theorem dX10_multiply_61 : decode cX10_multiply 61 = .ok (.iload 4, 2) := by decide +kernel
theorem dX10_multiply_63 : decode cX10_multiply 63 = .ok (.ifCond .eq 12, 3) := by decide +kernel
theorem dX10_multiply_66 : decode cX10_multiply 66 = .ok (.aload_n 0, 1) := by decide +kernel
theorem dX10_multiply_67 : decode cX10_multiply 67 = .ok (.invokevirtual 200, 3) := by decide +kernel
theorem dX10_multiply_70 : decode cX10_multiply 70 = .ok (.istore 4, 2) := by decide +kernel
theorem dX10_multiply_72 : decode cX10_multiply 72 = .ok (.goto 48, 3) := by decide +kernel
theorem dX10_multiply_75 : decode cX10_multiply 75 = .ok (.aload_n 0, 1) := by decide +kernel
theorem dX10_multiply_76 : decode cX10_multiply 76 = .ok (.getfield 192, 3) := by decide +kernel
theorem dX10_multiply_79 : decode cX10_multiply 79 = .ok (.getfield 146, 3) := by decide +kernel
theorem dX10_multiply_82 : decode cX10_multiply 82 = .ok (.aload_n 0, 1) := by decide +kernel
theorem dX10_multiply_83 : decode cX10_multiply 83 = .ok (.getfield 174, 3) := by decide +kernel
theorem dX10_multiply_86 : decode cX10_multiply 86 = .ok (.bipush 12, 2) := by decide +kernel
theorem dX10_multiply_88 : decode cX10_multiply 88 = .ok (.invokestatic 91, 3) := by decide +kernel
theorem dX10_multiply_91 : decode cX10_multiply 91 = .ok (.aload_n 0, 1) := by decide +kernel
theorem dX10_multiply_92 : decode cX10_multiply 92 = .ok (.getfield 192, 3) := by decide +kernel
theorem dX10_multiply_95 : decode cX10_multiply 95 = .ok (.getfield 149, 3) := by decide +kernel
theorem dX10_multiply_98 : decode cX10_multiply 98 = .ok (.aload_n 0, 1) := by decide +kernel
theorem dX10_multiply_99 : decode cX10_multiply 99 = .ok (.getfield 180, 3) := by decide +kernel
theorem dX10_multiply_102 : decode cX10_multiply 102 = .ok (.bipush 12, 2) := by decide +kernel
theorem dX10_multiply_104 : decode cX10_multiply 104 = .ok (.invokestatic 91, 3) := by decide +kernel
theorem dX10_multiply_107 : decode cX10_multiply 107 = .ok (.iconst 1, 1) := by decide +kernel
theorem dX10_multiply_108 : decode cX10_multiply 108 = .ok (.aload_n 0, 1) := by decide +kernel
theorem dX10_multiply_109 : decode cX10_multiply 109 = .ok (.getfield 168, 3) := by decide +kernel
theorem dX10_multiply_112 : decode cX10_multiply 112 = .ok (.bipush 12, 2) := by decide +kernel
theorem dX10_multiply_114 : decode cX10_multiply 114 = .ok (.invokestatic 98, 3) := by decide +kernel
theorem dX10_multiply_117 : decode cX10_multiply 117 = .ok (.iconst 1, 1) := by decide +kernel
theorem dX10_multiply_118 : decode cX10_multiply 118 = .ok (.istore 4, 2) := by decide +kernel
theorem dX10_multiply_120 : decode cX10_multiply 120 = .ok (.iinc 5 (-1), 3) := by decide +kernel
theorem dX10_multiply_123 : decode cX10_multiply 123 = .ok (.goto (-107), 3) := by decide +kernel
theorem dX10_multiply_126 : decode cX10_multiply 126 = .ok (.aload_n 3, 1) := by decide +kernel
theorem dX10_multiply_127 : decode cX10_multiply 127 = .ok (.iload 4, 2) := by decide +kernel
theorem dX10_multiply_129 : decode cX10_multiply 129 = .ok (.ifCond .ne 7, 3) := by decide +kernel
theorem dX10_multiply_132 : decode cX10_multiply 132 = .ok (.iconst 1, 1) := by decide +kernel
theorem dX10_multiply_133 : decode cX10_multiply 133 = .ok (.goto 4, 3) := by decide +kernel
theorem dX10_multiply_136 : decode cX10_multiply 136 = .ok (.iconst 0, 1) := by decide +kernel
theorem dX10_multiply_137 : decode cX10_multiply 137 = .ok (.putfield 136, 3) := by decide +kernel
theorem dX10_multiply_140 : decode cX10_multiply 140 = .ok (.iload 4, 2) := by decide +kernel
theorem dX10_multiply_142 : decode cX10_multiply 142 = .ok (.ifCond .ne 4, 3) := by decide +kernel
theorem dX10_multiply_145 : decode cX10_multiply 145 = .ok (.return_, 1) := by decide +kernel
theorem dX10_multiply_146 : decode cX10_multiply 146 = .ok (.aload_n 0, 1) := by decide +kernel
theorem dX10_multiply_147 : decode cX10_multiply 147 = .ok (.aload_n 0, 1) := by decide +kernel
theorem dX10_multiply_148 : decode cX10_multiply 148 = .ok (.getfield 61, 3) := by decide +kernel
theorem dX10_multiply_151 : decode cX10_multiply 151 = .ok (.aload_n 0, 1) := by decide +kernel
theorem dX10_multiply_152 : decode cX10_multiply 152 = .ok (.getfield 168, 3) := by decide +kernel
theorem dX10_multiply_155 : decode cX10_multiply 155 = .ok (.aload_n 0, 1) := by decide +kernel
theorem dX10_multiply_156 : decode cX10_multiply 156 = .ok (.getfield 158, 3) := by decide +kernel
theorem dX10_multiply_159 : decode cX10_multiply 159 = .ok (.invokevirtual 161, 3) := by decide +kernel
theorem dX10_multiply_162 : decode cX10_multiply 162 = .ok (.istore 5, 2) := by decide +kernel
theorem dX10_multiply_164 : decode cX10_multiply 164 = .ok (.aload_n 0, 1) := by decide +kernel
theorem dX10_multiply_165 : decode cX10_multiply 165 = .ok (.aload_n 0, 1) := by decide +kernel
theorem dX10_multiply_166 : decode cX10_multiply 166 = .ok (.getfield 61, 3) := by decide +kernel
theorem dX10_multiply_169 : decode cX10_multiply 169 = .ok (.aload_n 0, 1) := by decide +kernel
theorem dX10_multiply_170 : decode cX10_multiply 170 = .ok (.getfield 174, 3) := by decide +kernel
theorem dX10_multiply_173 : decode cX10_multiply 173 = .ok (.aload_n 0, 1) := by decide +kernel
theorem dX10_multiply_174 : decode cX10_multiply 174 = .ok (.getfield 158, 3) := by decide +kernel
theorem dX10_multiply_177 : decode cX10_multiply 177 = .ok (.aload_n 3, 1) := by decide +kernel
theorem dX10_multiply_178 : decode cX10_multiply 178 = .ok (.getfield 146, 3) := by decide +kernel
theorem dX10_multiply_181 : decode cX10_multiply 181 = .ok (.invokevirtual 102, 3) := by decide +kernel
theorem dX10_multiply_184 : decode cX10_multiply 184 = .ok (.aload_n 0, 1) := by decide +kernel
theorem dX10_multiply_185 : decode cX10_multiply 185 = .ok (.aload_n 0, 1) := by decide +kernel
theorem dX10_multiply_186 : decode cX10_multiply 186 = .ok (.getfield 61, 3) := by decide +kernel
theorem dX10_multiply_189 : decode cX10_multiply 189 = .ok (.aload_n 0, 1) := by decide +kernel
theorem dX10_multiply_190 : decode cX10_multiply 190 = .ok (.getfield 180, 3) := by decide +kernel
theorem dX10_multiply_193 : decode cX10_multiply 193 = .ok (.aload_n 0, 1) := by decide +kernel
theorem dX10_multiply_194 : decode cX10_multiply 194 = .ok (.getfield 158, 3) := by decide +kernel
theorem dX10_multiply_197 : decode cX10_multiply 197 = .ok (.aload_n 3, 1) := by decide +kernel
theorem dX10_multiply_198 : decode cX10_multiply 198 = .ok (.getfield 149, 3) := by decide +kernel
theorem dX10_multiply_201 : decode cX10_multiply 201 = .ok (.invokevirtual 102, 3) := by decide +kernel
theorem dX10_multiply_204 : decode cX10_multiply 204 = .ok (.return_, 1) := by decide +kernel
abbrev cX10_doubles : ByteArray := prog_15_method_26_code
def yX10_doubles : MethodName := ⟨RX10, "doubles", "()V"⟩
theorem dX10_doubles_0 : decode cX10_doubles 0 = .ok (.aload_n 0, 1) := by decide +kernel
theorem dX10_doubles_1 : decode cX10_doubles 1 = .ok (.aload_n 0, 1) := by decide +kernel
theorem dX10_doubles_2 : decode cX10_doubles 2 = .ok (.getfield 61, 3) := by decide +kernel
theorem dX10_doubles_5 : decode cX10_doubles 5 = .ok (.aload_n 0, 1) := by decide +kernel
theorem dX10_doubles_6 : decode cX10_doubles 6 = .ok (.getfield 168, 3) := by decide +kernel
theorem dX10_doubles_9 : decode cX10_doubles 9 = .ok (.aload_n 0, 1) := by decide +kernel
theorem dX10_doubles_10 : decode cX10_doubles 10 = .ok (.getfield 168, 3) := by decide +kernel
theorem dX10_doubles_13 : decode cX10_doubles 13 = .ok (.aload_n 0, 1) := by decide +kernel
theorem dX10_doubles_14 : decode cX10_doubles 14 = .ok (.getfield 171, 3) := by decide +kernel
theorem dX10_doubles_17 : decode cX10_doubles 17 = .ok (.invokevirtual 102, 3) := by decide +kernel
theorem dX10_doubles_20 : decode cX10_doubles 20 = .ok (.aload_n 0, 1) := by decide +kernel
theorem dX10_doubles_21 : decode cX10_doubles 21 = .ok (.aload_n 0, 1) := by decide +kernel
theorem dX10_doubles_22 : decode cX10_doubles 22 = .ok (.getfield 61, 3) := by decide +kernel
theorem dX10_doubles_25 : decode cX10_doubles 25 = .ok (.aload_n 0, 1) := by decide +kernel
theorem dX10_doubles_26 : decode cX10_doubles 26 = .ok (.getfield 174, 3) := by decide +kernel
theorem dX10_doubles_29 : decode cX10_doubles 29 = .ok (.aload_n 0, 1) := by decide +kernel
theorem dX10_doubles_30 : decode cX10_doubles 30 = .ok (.getfield 174, 3) := by decide +kernel
theorem dX10_doubles_33 : decode cX10_doubles 33 = .ok (.aload_n 0, 1) := by decide +kernel
theorem dX10_doubles_34 : decode cX10_doubles 34 = .ok (.getfield 177, 3) := by decide +kernel
theorem dX10_doubles_37 : decode cX10_doubles 37 = .ok (.invokevirtual 102, 3) := by decide +kernel
theorem dX10_doubles_40 : decode cX10_doubles 40 = .ok (.aload_n 0, 1) := by decide +kernel
theorem dX10_doubles_41 : decode cX10_doubles 41 = .ok (.getfield 61, 3) := by decide +kernel
theorem dX10_doubles_44 : decode cX10_doubles 44 = .ok (.aload_n 0, 1) := by decide +kernel
theorem dX10_doubles_45 : decode cX10_doubles 45 = .ok (.getfield 177, 3) := by decide +kernel
theorem dX10_doubles_48 : decode cX10_doubles 48 = .ok (.aload_n 0, 1) := by decide +kernel
theorem dX10_doubles_49 : decode cX10_doubles 49 = .ok (.getfield 171, 3) := by decide +kernel
theorem dX10_doubles_52 : decode cX10_doubles 52 = .ok (.aload_n 0, 1) := by decide +kernel
theorem dX10_doubles_53 : decode cX10_doubles 53 = .ok (.getfield 177, 3) := by decide +kernel
theorem dX10_doubles_56 : decode cX10_doubles 56 = .ok (.invokestatic 130, 3) := by decide +kernel
theorem dX10_doubles_59 : decode cX10_doubles 59 = .ok (.aload_n 0, 1) := by decide +kernel
theorem dX10_doubles_60 : decode cX10_doubles 60 = .ok (.getfield 61, 3) := by decide +kernel
theorem dX10_doubles_63 : decode cX10_doubles 63 = .ok (.aload_n 0, 1) := by decide +kernel
theorem dX10_doubles_64 : decode cX10_doubles 64 = .ok (.getfield 177, 3) := by decide +kernel
theorem dX10_doubles_67 : decode cX10_doubles 67 = .ok (.aload_n 0, 1) := by decide +kernel
theorem dX10_doubles_68 : decode cX10_doubles 68 = .ok (.getfield 177, 3) := by decide +kernel
theorem dX10_doubles_71 : decode cX10_doubles 71 = .ok (.aload_n 0, 1) := by decide +kernel
theorem dX10_doubles_72 : decode cX10_doubles 72 = .ok (.getfield 171, 3) := by decide +kernel
theorem dX10_doubles_75 : decode cX10_doubles 75 = .ok (.invokestatic 155, 3) := by decide +kernel
theorem dX10_doubles_78 : decode cX10_doubles 78 = .ok (.aload_n 0, 1) := by decide +kernel
theorem dX10_doubles_79 : decode cX10_doubles 79 = .ok (.getfield 61, 3) := by decide +kernel
theorem dX10_doubles_82 : decode cX10_doubles 82 = .ok (.aload_n 0, 1) := by decide +kernel
theorem dX10_doubles_83 : decode cX10_doubles 83 = .ok (.getfield 171, 3) := by decide +kernel
theorem dX10_doubles_86 : decode cX10_doubles 86 = .ok (.aload_n 0, 1) := by decide +kernel
theorem dX10_doubles_87 : decode cX10_doubles 87 = .ok (.getfield 177, 3) := by decide +kernel
theorem dX10_doubles_90 : decode cX10_doubles 90 = .ok (.aload_n 0, 1) := by decide +kernel
theorem dX10_doubles_91 : decode cX10_doubles 91 = .ok (.getfield 171, 3) := by decide +kernel
theorem dX10_doubles_94 : decode cX10_doubles 94 = .ok (.invokestatic 155, 3) := by decide +kernel
theorem dX10_doubles_97 : decode cX10_doubles 97 = .ok (.aload_n 0, 1) := by decide +kernel
theorem dX10_doubles_98 : decode cX10_doubles 98 = .ok (.aload_n 0, 1) := by decide +kernel
theorem dX10_doubles_99 : decode cX10_doubles 99 = .ok (.getfield 61, 3) := by decide +kernel
theorem dX10_doubles_102 : decode cX10_doubles 102 = .ok (.aload_n 0, 1) := by decide +kernel
theorem dX10_doubles_103 : decode cX10_doubles 103 = .ok (.getfield 180, 3) := by decide +kernel
theorem dX10_doubles_106 : decode cX10_doubles 106 = .ok (.aload_n 0, 1) := by decide +kernel
theorem dX10_doubles_107 : decode cX10_doubles 107 = .ok (.getfield 168, 3) := by decide +kernel
theorem dX10_doubles_110 : decode cX10_doubles 110 = .ok (.aload_n 0, 1) := by decide +kernel
theorem dX10_doubles_111 : decode cX10_doubles 111 = .ok (.getfield 177, 3) := by decide +kernel
theorem dX10_doubles_114 : decode cX10_doubles 114 = .ok (.invokevirtual 102, 3) := by decide +kernel
theorem dX10_doubles_117 : decode cX10_doubles 117 = .ok (.aload_n 0, 1) := by decide +kernel
theorem dX10_doubles_118 : decode cX10_doubles 118 = .ok (.aload_n 0, 1) := by decide +kernel
theorem dX10_doubles_119 : decode cX10_doubles 119 = .ok (.getfield 61, 3) := by decide +kernel
theorem dX10_doubles_122 : decode cX10_doubles 122 = .ok (.aload_n 0, 1) := by decide +kernel
theorem dX10_doubles_123 : decode cX10_doubles 123 = .ok (.getfield 174, 3) := by decide +kernel
theorem dX10_doubles_126 : decode cX10_doubles 126 = .ok (.aload_n 0, 1) := by decide +kernel
theorem dX10_doubles_127 : decode cX10_doubles 127 = .ok (.getfield 180, 3) := by decide +kernel
theorem dX10_doubles_130 : decode cX10_doubles 130 = .ok (.aload_n 0, 1) := by decide +kernel
theorem dX10_doubles_131 : decode cX10_doubles 131 = .ok (.getfield 183, 3) := by decide +kernel
theorem dX10_doubles_134 : decode cX10_doubles 134 = .ok (.invokevirtual 102, 3) := by decide +kernel
theorem dX10_doubles_137 : decode cX10_doubles 137 = .ok (.aload_n 0, 1) := by decide +kernel
theorem dX10_doubles_138 : decode cX10_doubles 138 = .ok (.aload_n 0, 1) := by decide +kernel
theorem dX10_doubles_139 : decode cX10_doubles 139 = .ok (.getfield 61, 3) := by decide +kernel
theorem dX10_doubles_142 : decode cX10_doubles 142 = .ok (.aload_n 0, 1) := by decide +kernel
theorem dX10_doubles_143 : decode cX10_doubles 143 = .ok (.getfield 183, 3) := by decide +kernel
theorem dX10_doubles_146 : decode cX10_doubles 146 = .ok (.aload_n 0, 1) := by decide +kernel
theorem dX10_doubles_147 : decode cX10_doubles 147 = .ok (.getfield 177, 3) := by decide +kernel
theorem dX10_doubles_150 : decode cX10_doubles 150 = .ok (.aload_n 0, 1) := by decide +kernel
theorem dX10_doubles_151 : decode cX10_doubles 151 = .ok (.getfield 183, 3) := by decide +kernel
theorem dX10_doubles_154 : decode cX10_doubles 154 = .ok (.invokevirtual 102, 3) := by decide +kernel
theorem dX10_doubles_157 : decode cX10_doubles 157 = .ok (.aload_n 0, 1) := by decide +kernel
theorem dX10_doubles_158 : decode cX10_doubles 158 = .ok (.getfield 61, 3) := by decide +kernel
theorem dX10_doubles_161 : decode cX10_doubles 161 = .ok (.aload_n 0, 1) := by decide +kernel
theorem dX10_doubles_162 : decode cX10_doubles 162 = .ok (.getfield 183, 3) := by decide +kernel
theorem dX10_doubles_165 : decode cX10_doubles 165 = .ok (.aload_n 0, 1) := by decide +kernel
theorem dX10_doubles_166 : decode cX10_doubles 166 = .ok (.getfield 183, 3) := by decide +kernel
theorem dX10_doubles_169 : decode cX10_doubles 169 = .ok (.aload_n 0, 1) := by decide +kernel
theorem dX10_doubles_170 : decode cX10_doubles 170 = .ok (.getfield 183, 3) := by decide +kernel
theorem dX10_doubles_173 : decode cX10_doubles 173 = .ok (.invokestatic 155, 3) := by decide +kernel
theorem dX10_doubles_176 : decode cX10_doubles 176 = .ok (.aload_n 0, 1) := by decide +kernel
theorem dX10_doubles_177 : decode cX10_doubles 177 = .ok (.getfield 61, 3) := by decide +kernel
theorem dX10_doubles_180 : decode cX10_doubles 180 = .ok (.aload_n 0, 1) := by decide +kernel
theorem dX10_doubles_181 : decode cX10_doubles 181 = .ok (.getfield 183, 3) := by decide +kernel
theorem dX10_doubles_184 : decode cX10_doubles 184 = .ok (.aload_n 0, 1) := by decide +kernel
theorem dX10_doubles_185 : decode cX10_doubles 185 = .ok (.getfield 183, 3) := by decide +kernel
theorem dX10_doubles_188 : decode cX10_doubles 188 = .ok (.aload_n 0, 1) := by decide +kernel
theorem dX10_doubles_189 : decode cX10_doubles 189 = .ok (.getfield 183, 3) := by decide +kernel
theorem dX10_doubles_192 : decode cX10_doubles 192 = .ok (.invokestatic 155, 3) := by decide +kernel
theorem dX10_doubles_195 : decode cX10_doubles 195 = .ok (.aload_n 0, 1) := by decide +kernel
theorem dX10_doubles_196 : decode cX10_doubles 196 = .ok (.aload_n 0, 1) := by decide +kernel
theorem dX10_doubles_197 : decode cX10_doubles 197 = .ok (.getfield 61, 3) := by decide +kernel
theorem dX10_doubles_200 : decode cX10_doubles 200 = .ok (.aload_n 0, 1) := by decide +kernel
theorem dX10_doubles_201 : decode cX10_doubles 201 = .ok (.getfield 171, 3) := by decide +kernel
theorem dX10_doubles_204 : decode cX10_doubles 204 = .ok (.aload_n 0, 1) := by decide +kernel
theorem dX10_doubles_205 : decode cX10_doubles 205 = .ok (.getfield 171, 3) := by decide +kernel
theorem dX10_doubles_208 : decode cX10_doubles 208 = .ok (.aload_n 0, 1) := by decide +kernel
theorem dX10_doubles_209 : decode cX10_doubles 209 = .ok (.getfield 186, 3) := by decide +kernel
theorem dX10_doubles_212 : decode cX10_doubles 212 = .ok (.invokevirtual 102, 3) := by decide +kernel
theorem dX10_doubles_215 : decode cX10_doubles 215 = .ok (.aload_n 0, 1) := by decide +kernel
theorem dX10_doubles_216 : decode cX10_doubles 216 = .ok (.getfield 61, 3) := by decide +kernel
theorem dX10_doubles_219 : decode cX10_doubles 219 = .ok (.aload_n 0, 1) := by decide +kernel
theorem dX10_doubles_220 : decode cX10_doubles 220 = .ok (.getfield 186, 3) := by decide +kernel
theorem dX10_doubles_223 : decode cX10_doubles 223 = .ok (.aload_n 0, 1) := by decide +kernel
theorem dX10_doubles_224 : decode cX10_doubles 224 = .ok (.getfield 183, 3) := by decide +kernel
theorem dX10_doubles_227 : decode cX10_doubles 227 = .ok (.aload_n 0, 1) := by decide +kernel
theorem dX10_doubles_228 : decode cX10_doubles 228 = .ok (.getfield 186, 3) := by decide +kernel
theorem dX10_doubles_231 : decode cX10_doubles 231 = .ok (.invokestatic 130, 3) := by decide +kernel
theorem dX10_doubles_234 : decode cX10_doubles 234 = .ok (.aload_n 0, 1) := by decide +kernel
theorem dX10_doubles_235 : decode cX10_doubles 235 = .ok (.getfield 61, 3) := by decide +kernel
theorem dX10_doubles_238 : decode cX10_doubles 238 = .ok (.aload_n 0, 1) := by decide +kernel
theorem dX10_doubles_239 : decode cX10_doubles 239 = .ok (.getfield 186, 3) := by decide +kernel
theorem dX10_doubles_242 : decode cX10_doubles 242 = .ok (.aload_n 0, 1) := by decide +kernel
theorem dX10_doubles_243 : decode cX10_doubles 243 = .ok (.getfield 183, 3) := by decide +kernel
theorem dX10_doubles_246 : decode cX10_doubles 246 = .ok (.aload_n 0, 1) := by decide +kernel
theorem dX10_doubles_247 : decode cX10_doubles 247 = .ok (.getfield 186, 3) := by decide +kernel
theorem dX10_doubles_250 : decode cX10_doubles 250 = .ok (.invokestatic 130, 3) := by decide +kernel
theorem dX10_doubles_253 : decode cX10_doubles 253 = .ok (.aload_n 0, 1) := by decide +kernel
theorem dX10_doubles_254 : decode cX10_doubles 254 = .ok (.getfield 61, 3) := by decide +kernel
theorem dX10_doubles_257 : decode cX10_doubles 257 = .ok (.aload_n 0, 1) := by decide +kernel
theorem dX10_doubles_258 : decode cX10_doubles 258 = .ok (.getfield 183, 3) := by decide +kernel
theorem dX10_doubles_261 : decode cX10_doubles 261 = .ok (.aload_n 0, 1) := by decide +kernel
theorem dX10_doubles_262 : decode cX10_doubles 262 = .ok (.getfield 186, 3) := by decide +kernel
theorem dX10_doubles_265 : decode cX10_doubles 265 = .ok (.aload_n 0, 1) := by decide +kernel
theorem dX10_doubles_266 : decode cX10_doubles 266 = .ok (.getfield 183, 3) := by decide +kernel
theorem dX10_doubles_269 : decode cX10_doubles 269 = .ok (.invokestatic 130, 3) := by decide +kernel
theorem dX10_doubles_272 : decode cX10_doubles 272 = .ok (.aload_n 0, 1) := by decide +kernel
theorem dX10_doubles_273 : decode cX10_doubles 273 = .ok (.aload_n 0, 1) := by decide +kernel
theorem dX10_doubles_274 : decode cX10_doubles 274 = .ok (.getfield 61, 3) := by decide +kernel
theorem dX10_doubles_277 : decode cX10_doubles 277 = .ok (.aload_n 0, 1) := by decide +kernel
theorem dX10_doubles_278 : decode cX10_doubles 278 = .ok (.getfield 171, 3) := by decide +kernel
theorem dX10_doubles_281 : decode cX10_doubles 281 = .ok (.aload_n 0, 1) := by decide +kernel
theorem dX10_doubles_282 : decode cX10_doubles 282 = .ok (.getfield 183, 3) := by decide +kernel
theorem dX10_doubles_285 : decode cX10_doubles 285 = .ok (.aload_n 0, 1) := by decide +kernel
theorem dX10_doubles_286 : decode cX10_doubles 286 = .ok (.getfield 183, 3) := by decide +kernel
theorem dX10_doubles_289 : decode cX10_doubles 289 = .ok (.invokevirtual 102, 3) := by decide +kernel
theorem dX10_doubles_292 : decode cX10_doubles 292 = .ok (.aload_n 0, 1) := by decide +kernel
theorem dX10_doubles_293 : decode cX10_doubles 293 = .ok (.aload_n 0, 1) := by decide +kernel
theorem dX10_doubles_294 : decode cX10_doubles 294 = .ok (.getfield 61, 3) := by decide +kernel
theorem dX10_doubles_297 : decode cX10_doubles 297 = .ok (.aload_n 0, 1) := by decide +kernel
theorem dX10_doubles_298 : decode cX10_doubles 298 = .ok (.getfield 180, 3) := by decide +kernel
theorem dX10_doubles_301 : decode cX10_doubles 301 = .ok (.aload_n 0, 1) := by decide +kernel
theorem dX10_doubles_302 : decode cX10_doubles 302 = .ok (.getfield 177, 3) := by decide +kernel
theorem dX10_doubles_305 : decode cX10_doubles 305 = .ok (.aload_n 0, 1) := by decide +kernel
theorem dX10_doubles_306 : decode cX10_doubles 306 = .ok (.getfield 171, 3) := by decide +kernel
theorem dX10_doubles_309 : decode cX10_doubles 309 = .ok (.invokevirtual 102, 3) := by decide +kernel
theorem dX10_doubles_312 : decode cX10_doubles 312 = .ok (.aload_n 0, 1) := by decide +kernel
theorem dX10_doubles_313 : decode cX10_doubles 313 = .ok (.aload_n 0, 1) := by decide +kernel
theorem dX10_doubles_314 : decode cX10_doubles 314 = .ok (.getfield 61, 3) := by decide +kernel
theorem dX10_doubles_317 : decode cX10_doubles 317 = .ok (.aload_n 0, 1) := by decide +kernel
theorem dX10_doubles_318 : decode cX10_doubles 318 = .ok (.getfield 171, 3) := by decide +kernel
theorem dX10_doubles_321 : decode cX10_doubles 321 = .ok (.aload_n 0, 1) := by decide +kernel
theorem dX10_doubles_322 : decode cX10_doubles 322 = .ok (.getfield 171, 3) := by decide +kernel
theorem dX10_doubles_325 : decode cX10_doubles 325 = .ok (.aload_n 0, 1) := by decide +kernel
theorem dX10_doubles_326 : decode cX10_doubles 326 = .ok (.getfield 171, 3) := by decide +kernel
theorem dX10_doubles_329 : decode cX10_doubles 329 = .ok (.invokevirtual 102, 3) := by decide +kernel
theorem dX10_doubles_332 : decode cX10_doubles 332 = .ok (.aload_n 0, 1) := by decide +kernel
theorem dX10_doubles_333 : decode cX10_doubles 333 = .ok (.aload_n 0, 1) := by decide +kernel
theorem dX10_doubles_334 : decode cX10_doubles 334 = .ok (.getfield 171, 3) := by decide +kernel
theorem dX10_doubles_337 : decode cX10_doubles 337 = .ok (.invokevirtual 189, 3) := by decide +kernel
theorem dX10_doubles_340 : decode cX10_doubles 340 = .ok (.aload_n 0, 1) := by decide +kernel
theorem dX10_doubles_341 : decode cX10_doubles 341 = .ok (.getfield 61, 3) := by decide +kernel
theorem dX10_doubles_344 : decode cX10_doubles 344 = .ok (.aload_n 0, 1) := by decide +kernel
theorem dX10_doubles_345 : decode cX10_doubles 345 = .ok (.getfield 183, 3) := by decide +kernel
theorem dX10_doubles_348 : decode cX10_doubles 348 = .ok (.aload_n 0, 1) := by decide +kernel
theorem dX10_doubles_349 : decode cX10_doubles 349 = .ok (.getfield 171, 3) := by decide +kernel
theorem dX10_doubles_352 : decode cX10_doubles 352 = .ok (.aload_n 0, 1) := by decide +kernel
theorem dX10_doubles_353 : decode cX10_doubles 353 = .ok (.getfield 180, 3) := by decide +kernel
theorem dX10_doubles_356 : decode cX10_doubles 356 = .ok (.invokestatic 130, 3) := by decide +kernel
theorem dX10_doubles_359 : decode cX10_doubles 359 = .ok (.aload_n 0, 1) := by decide +kernel
theorem dX10_doubles_360 : decode cX10_doubles 360 = .ok (.aload_n 0, 1) := by decide +kernel
theorem dX10_doubles_361 : decode cX10_doubles 361 = .ok (.getfield 61, 3) := by decide +kernel
theorem dX10_doubles_364 : decode cX10_doubles 364 = .ok (.aload_n 0, 1) := by decide +kernel
theorem dX10_doubles_365 : decode cX10_doubles 365 = .ok (.getfield 186, 3) := by decide +kernel
theorem dX10_doubles_368 : decode cX10_doubles 368 = .ok (.aload_n 0, 1) := by decide +kernel
theorem dX10_doubles_369 : decode cX10_doubles 369 = .ok (.getfield 177, 3) := by decide +kernel
theorem dX10_doubles_372 : decode cX10_doubles 372 = .ok (.aload_n 0, 1) := by decide +kernel
theorem dX10_doubles_373 : decode cX10_doubles 373 = .ok (.getfield 174, 3) := by decide +kernel
theorem dX10_doubles_376 : decode cX10_doubles 376 = .ok (.invokevirtual 102, 3) := by decide +kernel
theorem dX10_doubles_379 : decode cX10_doubles 379 = .ok (.aload_n 0, 1) := by decide +kernel
theorem dX10_doubles_380 : decode cX10_doubles 380 = .ok (.getfield 61, 3) := by decide +kernel
theorem dX10_doubles_383 : decode cX10_doubles 383 = .ok (.aload_n 0, 1) := by decide +kernel
theorem dX10_doubles_384 : decode cX10_doubles 384 = .ok (.getfield 174, 3) := by decide +kernel
theorem dX10_doubles_387 : decode cX10_doubles 387 = .ok (.aload_n 0, 1) := by decide +kernel
theorem dX10_doubles_388 : decode cX10_doubles 388 = .ok (.getfield 174, 3) := by decide +kernel
theorem dX10_doubles_391 : decode cX10_doubles 391 = .ok (.aload_n 0, 1) := by decide +kernel
theorem dX10_doubles_392 : decode cX10_doubles 392 = .ok (.getfield 174, 3) := by decide +kernel
theorem dX10_doubles_395 : decode cX10_doubles 395 = .ok (.invokestatic 155, 3) := by decide +kernel
theorem dX10_doubles_398 : decode cX10_doubles 398 = .ok (.aload_n 0, 1) := by decide +kernel
theorem dX10_doubles_399 : decode cX10_doubles 399 = .ok (.aload_n 0, 1) := by decide +kernel
theorem dX10_doubles_400 : decode cX10_doubles 400 = .ok (.getfield 61, 3) := by decide +kernel
theorem dX10_doubles_403 : decode cX10_doubles 403 = .ok (.aload_n 0, 1) := by decide +kernel
theorem dX10_doubles_404 : decode cX10_doubles 404 = .ok (.getfield 177, 3) := by decide +kernel
theorem dX10_doubles_407 : decode cX10_doubles 407 = .ok (.aload_n 0, 1) := by decide +kernel
theorem dX10_doubles_408 : decode cX10_doubles 408 = .ok (.getfield 177, 3) := by decide +kernel
theorem dX10_doubles_411 : decode cX10_doubles 411 = .ok (.aload_n 0, 1) := by decide +kernel
theorem dX10_doubles_412 : decode cX10_doubles 412 = .ok (.getfield 171, 3) := by decide +kernel
theorem dX10_doubles_415 : decode cX10_doubles 415 = .ok (.invokevirtual 102, 3) := by decide +kernel
theorem dX10_doubles_418 : decode cX10_doubles 418 = .ok (.aload_n 0, 1) := by decide +kernel
theorem dX10_doubles_419 : decode cX10_doubles 419 = .ok (.aload_n 0, 1) := by decide +kernel
theorem dX10_doubles_420 : decode cX10_doubles 420 = .ok (.getfield 61, 3) := by decide +kernel
theorem dX10_doubles_423 : decode cX10_doubles 423 = .ok (.aload_n 0, 1) := by decide +kernel
theorem dX10_doubles_424 : decode cX10_doubles 424 = .ok (.getfield 171, 3) := by decide +kernel
theorem dX10_doubles_427 : decode cX10_doubles 427 = .ok (.aload_n 0, 1) := by decide +kernel
theorem dX10_doubles_428 : decode cX10_doubles 428 = .ok (.getfield 177, 3) := by decide +kernel
theorem dX10_doubles_431 : decode cX10_doubles 431 = .ok (.aload_n 0, 1) := by decide +kernel
theorem dX10_doubles_432 : decode cX10_doubles 432 = .ok (.getfield 168, 3) := by decide +kernel
theorem dX10_doubles_435 : decode cX10_doubles 435 = .ok (.invokevirtual 102, 3) := by decide +kernel
theorem dX10_doubles_438 : decode cX10_doubles 438 = .ok (.aload_n 0, 1) := by decide +kernel
theorem dX10_doubles_439 : decode cX10_doubles 439 = .ok (.aload_n 0, 1) := by decide +kernel
theorem dX10_doubles_440 : decode cX10_doubles 440 = .ok (.getfield 168, 3) := by decide +kernel
theorem dX10_doubles_443 : decode cX10_doubles 443 = .ok (.invokevirtual 189, 3) := by decide +kernel
theorem dX10_doubles_446 : decode cX10_doubles 446 = .ok (.return_, 1) := by decide +kernel
abbrev cX10_times : ByteArray := prog_15_method_13_code
def yX10_times : MethodName := ⟨RX10, "times", "(LVeilMintModel$Mod;[I[I[I)V"⟩
theorem dX10_times_0 : decode cX10_times 0 = .ok (.aload_n 1, 1) := by decide +kernel
theorem dX10_times_1 : decode cX10_times 1 = .ok (.getfield 13, 3) := by decide +kernel
theorem dX10_times_4 : decode cX10_times 4 = .ok (.istore 5, 2) := by decide +kernel
theorem dX10_times_6 : decode cX10_times 6 = .ok (.iconst 0, 1) := by decide +kernel
theorem dX10_times_7 : decode cX10_times 7 = .ok (.istore 6, 2) := by decide +kernel
theorem dX10_times_9 : decode cX10_times 9 = .ok (.iload 6, 2) := by decide +kernel
theorem dX10_times_11 : decode cX10_times 11 = .ok (.iconst 2, 1) := by decide +kernel
theorem dX10_times_12 : decode cX10_times 12 = .ok (.iload 5, 2) := by decide +kernel
theorem dX10_times_14 : decode cX10_times 14 = .ok (.imul, 1) := by decide +kernel
theorem dX10_times_15 : decode cX10_times 15 = .ok (.if_icmp .ge 17, 3) := by decide +kernel
theorem dX10_times_18 : decode cX10_times 18 = .ok (.aload_n 0, 1) := by decide +kernel
theorem dX10_times_19 : decode cX10_times 19 = .ok (.getfield 36, 3) := by decide +kernel
theorem dX10_times_22 : decode cX10_times 22 = .ok (.iload 6, 2) := by decide +kernel
theorem dX10_times_24 : decode cX10_times 24 = .ok (.iconst 0, 1) := by decide +kernel
theorem dX10_times_25 : decode cX10_times 25 = .ok (.iastore, 1) := by decide +kernel
theorem dX10_times_26 : decode cX10_times 26 = .ok (.iinc 6 1, 3) := by decide +kernel
theorem dX10_times_29 : decode cX10_times 29 = .ok (.goto (-20), 3) := by decide +kernel
theorem dX10_times_32 : decode cX10_times 32 = .ok (.iconst 0, 1) := by decide +kernel
theorem dX10_times_33 : decode cX10_times 33 = .ok (.istore 6, 2) := by decide +kernel
theorem dX10_times_35 : decode cX10_times 35 = .ok (.iload 6, 2) := by decide +kernel
theorem dX10_times_37 : decode cX10_times 37 = .ok (.iload 5, 2) := by decide +kernel
theorem dX10_times_39 : decode cX10_times 39 = .ok (.if_icmp .ge 95, 3) := by decide +kernel
theorem dX10_times_42 : decode cX10_times 42 = .ok (.lconst 0, 1) := by decide +kernel
theorem dX10_times_43 : decode cX10_times 43 = .ok (.lstore 7, 2) := by decide +kernel
theorem dX10_times_45 : decode cX10_times 45 = .ok (.iconst 0, 1) := by decide +kernel
theorem dX10_times_46 : decode cX10_times 46 = .ok (.istore 9, 2) := by decide +kernel
theorem dX10_times_48 : decode cX10_times 48 = .ok (.iload 9, 2) := by decide +kernel
theorem dX10_times_50 : decode cX10_times 50 = .ok (.iload 5, 2) := by decide +kernel
theorem dX10_times_52 : decode cX10_times 52 = .ok (.if_icmp .ge 63, 3) := by decide +kernel
theorem dX10_times_55 : decode cX10_times 55 = .ok (.lload 7, 2) := by decide +kernel
theorem dX10_times_57 : decode cX10_times 57 = .ok (.aload_n 2, 1) := by decide +kernel
theorem dX10_times_58 : decode cX10_times 58 = .ok (.iload 6, 2) := by decide +kernel
theorem dX10_times_60 : decode cX10_times 60 = .ok (.iaload, 1) := by decide +kernel
theorem dX10_times_61 : decode cX10_times 61 = .ok (.invokestatic 9, 3) := by decide +kernel
theorem dX10_times_64 : decode cX10_times 64 = .ok (.aload_n 3, 1) := by decide +kernel
theorem dX10_times_65 : decode cX10_times 65 = .ok (.iload 9, 2) := by decide +kernel
theorem dX10_times_67 : decode cX10_times 67 = .ok (.iaload, 1) := by decide +kernel
theorem dX10_times_68 : decode cX10_times 68 = .ok (.invokestatic 9, 3) := by decide +kernel
theorem dX10_times_71 : decode cX10_times 71 = .ok (.lmul, 1) := by decide +kernel
theorem dX10_times_72 : decode cX10_times 72 = .ok (.aload_n 0, 1) := by decide +kernel
theorem dX10_times_73 : decode cX10_times 73 = .ok (.getfield 36, 3) := by decide +kernel
theorem dX10_times_76 : decode cX10_times 76 = .ok (.iload 6, 2) := by decide +kernel
theorem dX10_times_78 : decode cX10_times 78 = .ok (.iload 9, 2) := by decide +kernel
theorem dX10_times_80 : decode cX10_times 80 = .ok (.iadd, 1) := by decide +kernel
theorem dX10_times_81 : decode cX10_times 81 = .ok (.iaload, 1) := by decide +kernel
theorem dX10_times_82 : decode cX10_times 82 = .ok (.invokestatic 9, 3) := by decide +kernel
theorem dX10_times_85 : decode cX10_times 85 = .ok (.ladd, 1) := by decide +kernel
theorem dX10_times_86 : decode cX10_times 86 = .ok (.ladd, 1) := by decide +kernel
theorem dX10_times_87 : decode cX10_times 87 = .ok (.lstore 7, 2) := by decide +kernel
theorem dX10_times_89 : decode cX10_times 89 = .ok (.aload_n 0, 1) := by decide +kernel
theorem dX10_times_90 : decode cX10_times 90 = .ok (.getfield 36, 3) := by decide +kernel
theorem dX10_times_93 : decode cX10_times 93 = .ok (.iload 6, 2) := by decide +kernel
theorem dX10_times_95 : decode cX10_times 95 = .ok (.iload 9, 2) := by decide +kernel
theorem dX10_times_97 : decode cX10_times 97 = .ok (.iadd, 1) := by decide +kernel
theorem dX10_times_98 : decode cX10_times 98 = .ok (.lload 7, 2) := by decide +kernel
theorem dX10_times_100 : decode cX10_times 100 = .ok (.l2i, 1) := by decide +kernel
theorem dX10_times_101 : decode cX10_times 101 = .ok (.iastore, 1) := by decide +kernel
theorem dX10_times_102 : decode cX10_times 102 = .ok (.lload 7, 2) := by decide +kernel
theorem dX10_times_104 : decode cX10_times 104 = .ok (.bipush 32, 2) := by decide +kernel
theorem dX10_times_106 : decode cX10_times 106 = .ok (.lushr, 1) := by decide +kernel
theorem dX10_times_107 : decode cX10_times 107 = .ok (.lstore 7, 2) := by decide +kernel
theorem dX10_times_109 : decode cX10_times 109 = .ok (.iinc 9 1, 3) := by decide +kernel
theorem dX10_times_112 : decode cX10_times 112 = .ok (.goto (-64), 3) := by decide +kernel
theorem dX10_times_115 : decode cX10_times 115 = .ok (.aload_n 0, 1) := by decide +kernel
theorem dX10_times_116 : decode cX10_times 116 = .ok (.getfield 36, 3) := by decide +kernel
theorem dX10_times_119 : decode cX10_times 119 = .ok (.iload 6, 2) := by decide +kernel
theorem dX10_times_121 : decode cX10_times 121 = .ok (.iload 5, 2) := by decide +kernel
theorem dX10_times_123 : decode cX10_times 123 = .ok (.iadd, 1) := by decide +kernel
theorem dX10_times_124 : decode cX10_times 124 = .ok (.lload 7, 2) := by decide +kernel
theorem dX10_times_126 : decode cX10_times 126 = .ok (.l2i, 1) := by decide +kernel
theorem dX10_times_127 : decode cX10_times 127 = .ok (.iastore, 1) := by decide +kernel
theorem dX10_times_128 : decode cX10_times 128 = .ok (.iinc 6 1, 3) := by decide +kernel
theorem dX10_times_131 : decode cX10_times 131 = .ok (.goto (-96), 3) := by decide +kernel
theorem dX10_times_134 : decode cX10_times 134 = .ok (.aload_n 1, 1) := by decide +kernel
theorem dX10_times_135 : decode cX10_times 135 = .ok (.aload_n 0, 1) := by decide +kernel
theorem dX10_times_136 : decode cX10_times 136 = .ok (.getfield 61, 3) := by decide +kernel
theorem dX10_times_139 : decode cX10_times 139 = .ok (.if_acmp .ne 12, 3) := by decide +kernel
theorem dX10_times_142 : decode cX10_times 142 = .ok (.aload_n 0, 1) := by decide +kernel
theorem dX10_times_143 : decode cX10_times 143 = .ok (.aload 4, 2) := by decide +kernel
theorem dX10_times_145 : decode cX10_times 145 = .ok (.invokevirtual 65, 3) := by decide +kernel
theorem dX10_times_148 : decode cX10_times 148 = .ok (.goto 14, 3) := by decide +kernel
theorem dX10_times_151 : decode cX10_times 151 = .ok (.aload_n 0, 1) := by decide +kernel
theorem dX10_times_152 : decode cX10_times 152 = .ok (.aload_n 1, 1) := by decide +kernel
theorem dX10_times_153 : decode cX10_times 153 = .ok (.iconst 2, 1) := by decide +kernel
theorem dX10_times_154 : decode cX10_times 154 = .ok (.iload 5, 2) := by decide +kernel
theorem dX10_times_156 : decode cX10_times 156 = .ok (.imul, 1) := by decide +kernel
theorem dX10_times_157 : decode cX10_times 157 = .ok (.aload 4, 2) := by decide +kernel
theorem dX10_times_159 : decode cX10_times 159 = .ok (.invokevirtual 69, 3) := by decide +kernel
theorem dX10_times_162 : decode cX10_times 162 = .ok (.return_, 1) := by decide +kernel
abbrev cX10_folds : ByteArray := prog_15_method_15_code
def yX10_folds : MethodName := ⟨RX10, "folds", "([I)V"⟩
theorem dX10_folds_0 : decode cX10_folds 0 = .ok (.iconst 0, 1) := by decide +kernel
theorem dX10_folds_1 : decode cX10_folds 1 = .ok (.istore_n 2, 1) := by decide +kernel
theorem dX10_folds_2 : decode cX10_folds 2 = .ok (.iload_n 2, 1) := by decide +kernel
theorem dX10_folds_3 : decode cX10_folds 3 = .ok (.bipush 16, 2) := by decide +kernel
theorem dX10_folds_5 : decode cX10_folds 5 = .ok (.if_icmp .ge 34, 3) := by decide +kernel
theorem dX10_folds_8 : decode cX10_folds 8 = .ok (.aload_n 0, 1) := by decide +kernel
theorem dX10_folds_9 : decode cX10_folds 9 = .ok (.getfield 73, 3) := by decide +kernel
theorem dX10_folds_12 : decode cX10_folds 12 = .ok (.iload_n 2, 1) := by decide +kernel
theorem dX10_folds_13 : decode cX10_folds 13 = .ok (.iload_n 2, 1) := by decide +kernel
theorem dX10_folds_14 : decode cX10_folds 14 = .ok (.bipush 12, 2) := by decide +kernel
theorem dX10_folds_16 : decode cX10_folds 16 = .ok (.if_icmp .ge 15, 3) := by decide +kernel
theorem dX10_folds_19 : decode cX10_folds 19 = .ok (.aload_n 0, 1) := by decide +kernel
theorem dX10_folds_20 : decode cX10_folds 20 = .ok (.getfield 36, 3) := by decide +kernel
theorem dX10_folds_23 : decode cX10_folds 23 = .ok (.iload_n 2, 1) := by decide +kernel
theorem dX10_folds_24 : decode cX10_folds 24 = .ok (.iaload, 1) := by decide +kernel
theorem dX10_folds_25 : decode cX10_folds 25 = .ok (.invokestatic 9, 3) := by decide +kernel
theorem dX10_folds_28 : decode cX10_folds 28 = .ok (.goto 4, 3) := by decide +kernel
theorem dX10_folds_31 : decode cX10_folds 31 = .ok (.lconst 0, 1) := by decide +kernel
theorem dX10_folds_32 : decode cX10_folds 32 = .ok (.lastore, 1) := by decide +kernel
theorem dX10_folds_33 : decode cX10_folds 33 = .ok (.iinc 2 1, 3) := by decide +kernel
theorem dX10_folds_36 : decode cX10_folds 36 = .ok (.goto (-34), 3) := by decide +kernel
theorem dX10_folds_39 : decode cX10_folds 39 = .ok (.iconst 0, 1) := by decide +kernel
theorem dX10_folds_40 : decode cX10_folds 40 = .ok (.istore_n 2, 1) := by decide +kernel
theorem dX10_folds_41 : decode cX10_folds 41 = .ok (.iload_n 2, 1) := by decide +kernel
theorem dX10_folds_42 : decode cX10_folds 42 = .ok (.bipush 12, 2) := by decide +kernel
theorem dX10_folds_44 : decode cX10_folds 44 = .ok (.if_icmp .ge 26, 3) := by decide +kernel
theorem dX10_folds_47 : decode cX10_folds 47 = .ok (.aload_n 0, 1) := by decide +kernel
theorem dX10_folds_48 : decode cX10_folds 48 = .ok (.iload_n 2, 1) := by decide +kernel
theorem dX10_folds_49 : decode cX10_folds 49 = .ok (.aload_n 0, 1) := by decide +kernel
theorem dX10_folds_50 : decode cX10_folds 50 = .ok (.getfield 36, 3) := by decide +kernel
theorem dX10_folds_53 : decode cX10_folds 53 = .ok (.bipush 12, 2) := by decide +kernel
theorem dX10_folds_55 : decode cX10_folds 55 = .ok (.iload_n 2, 1) := by decide +kernel
theorem dX10_folds_56 : decode cX10_folds 56 = .ok (.iadd, 1) := by decide +kernel
theorem dX10_folds_57 : decode cX10_folds 57 = .ok (.iaload, 1) := by decide +kernel
theorem dX10_folds_58 : decode cX10_folds 58 = .ok (.invokestatic 9, 3) := by decide +kernel
theorem dX10_folds_61 : decode cX10_folds 61 = .ok (.invokevirtual 77, 3) := by decide +kernel
theorem dX10_folds_64 : decode cX10_folds 64 = .ok (.iinc 2 1, 3) := by decide +kernel
theorem dX10_folds_67 : decode cX10_folds 67 = .ok (.goto (-26), 3) := by decide +kernel
theorem dX10_folds_70 : decode cX10_folds 70 = .ok (.iconst 3, 1) := by decide +kernel
theorem dX10_folds_71 : decode cX10_folds 71 = .ok (.istore_n 2, 1) := by decide +kernel
theorem dX10_folds_72 : decode cX10_folds 72 = .ok (.iload_n 2, 1) := by decide +kernel
theorem dX10_folds_73 : decode cX10_folds 73 = .ok (.ifCond .lt 35, 3) := by decide +kernel
theorem dX10_folds_76 : decode cX10_folds 76 = .ok (.aload_n 0, 1) := by decide +kernel
theorem dX10_folds_77 : decode cX10_folds 77 = .ok (.getfield 73, 3) := by decide +kernel
theorem dX10_folds_80 : decode cX10_folds 80 = .ok (.bipush 12, 2) := by decide +kernel
theorem dX10_folds_82 : decode cX10_folds 82 = .ok (.iload_n 2, 1) := by decide +kernel
theorem dX10_folds_83 : decode cX10_folds 83 = .ok (.iadd, 1) := by decide +kernel
theorem dX10_folds_84 : decode cX10_folds 84 = .ok (.laload, 1) := by decide +kernel
theorem dX10_folds_85 : decode cX10_folds 85 = .ok (.lstore_n 3, 1) := by decide +kernel
theorem dX10_folds_86 : decode cX10_folds 86 = .ok (.aload_n 0, 1) := by decide +kernel
theorem dX10_folds_87 : decode cX10_folds 87 = .ok (.getfield 73, 3) := by decide +kernel
theorem dX10_folds_90 : decode cX10_folds 90 = .ok (.bipush 12, 2) := by decide +kernel
theorem dX10_folds_92 : decode cX10_folds 92 = .ok (.iload_n 2, 1) := by decide +kernel
theorem dX10_folds_93 : decode cX10_folds 93 = .ok (.iadd, 1) := by decide +kernel
theorem dX10_folds_94 : decode cX10_folds 94 = .ok (.lconst 0, 1) := by decide +kernel
theorem dX10_folds_95 : decode cX10_folds 95 = .ok (.lastore, 1) := by decide +kernel
theorem dX10_folds_96 : decode cX10_folds 96 = .ok (.aload_n 0, 1) := by decide +kernel
theorem dX10_folds_97 : decode cX10_folds 97 = .ok (.iload_n 2, 1) := by decide +kernel
theorem dX10_folds_98 : decode cX10_folds 98 = .ok (.lload_n 3, 1) := by decide +kernel
theorem dX10_folds_99 : decode cX10_folds 99 = .ok (.invokevirtual 77, 3) := by decide +kernel
theorem dX10_folds_102 : decode cX10_folds 102 = .ok (.iinc 2 (-1), 3) := by decide +kernel
theorem dX10_folds_105 : decode cX10_folds 105 = .ok (.goto (-33), 3) := by decide +kernel
theorem dX10_folds_108 : decode cX10_folds 108 = .ok (.aload_n 0, 1) := by decide +kernel
theorem dX10_folds_109 : decode cX10_folds 109 = .ok (.aload_n 1, 1) := by decide +kernel
theorem dX10_folds_110 : decode cX10_folds 110 = .ok (.invokevirtual 81, 3) := by decide +kernel
theorem dX10_folds_113 : decode cX10_folds 113 = .ok (.lstore_n 2, 1) := by decide +kernel
theorem dX10_folds_114 : decode cX10_folds 114 = .ok (.iconst 0, 1) := by decide +kernel
theorem dX10_folds_115 : decode cX10_folds 115 = .ok (.istore 4, 2) := by decide +kernel
theorem dX10_folds_117 : decode cX10_folds 117 = .ok (.iload 4, 2) := by decide +kernel
theorem dX10_folds_119 : decode cX10_folds 119 = .ok (.bipush 8, 2) := by decide +kernel
theorem dX10_folds_121 : decode cX10_folds 121 = .ok (.if_icmp .ge 57, 3) := by decide +kernel
theorem dX10_folds_124 : decode cX10_folds 124 = .ok (.lload_n 2, 1) := by decide +kernel
theorem dX10_folds_125 : decode cX10_folds 125 = .ok (.lconst 0, 1) := by decide +kernel
theorem dX10_folds_126 : decode cX10_folds 126 = .ok (.lcmp, 1) := by decide +kernel
theorem dX10_folds_127 : decode cX10_folds 127 = .ok (.ifCond .eq 51, 3) := by decide +kernel
theorem dX10_folds_130 : decode cX10_folds 130 = .ok (.iconst 0, 1) := by decide +kernel
theorem dX10_folds_131 : decode cX10_folds 131 = .ok (.istore 5, 2) := by decide +kernel
theorem dX10_folds_133 : decode cX10_folds 133 = .ok (.iload 5, 2) := by decide +kernel
theorem dX10_folds_135 : decode cX10_folds 135 = .ok (.bipush 12, 2) := by decide +kernel
theorem dX10_folds_137 : decode cX10_folds 137 = .ok (.if_icmp .ge 23, 3) := by decide +kernel
theorem dX10_folds_140 : decode cX10_folds 140 = .ok (.aload_n 0, 1) := by decide +kernel
theorem dX10_folds_141 : decode cX10_folds 141 = .ok (.getfield 73, 3) := by decide +kernel
theorem dX10_folds_144 : decode cX10_folds 144 = .ok (.iload 5, 2) := by decide +kernel
theorem dX10_folds_146 : decode cX10_folds 146 = .ok (.aload_n 1, 1) := by decide +kernel
theorem dX10_folds_147 : decode cX10_folds 147 = .ok (.iload 5, 2) := by decide +kernel
theorem dX10_folds_149 : decode cX10_folds 149 = .ok (.iaload, 1) := by decide +kernel
theorem dX10_folds_150 : decode cX10_folds 150 = .ok (.invokestatic 9, 3) := by decide +kernel
theorem dX10_folds_153 : decode cX10_folds 153 = .ok (.lastore, 1) := by decide +kernel
theorem dX10_folds_154 : decode cX10_folds 154 = .ok (.iinc 5 1, 3) := by decide +kernel
theorem dX10_folds_157 : decode cX10_folds 157 = .ok (.goto (-24), 3) := by decide +kernel
theorem dX10_folds_160 : decode cX10_folds 160 = .ok (.aload_n 0, 1) := by decide +kernel
theorem dX10_folds_161 : decode cX10_folds 161 = .ok (.iconst 0, 1) := by decide +kernel
theorem dX10_folds_162 : decode cX10_folds 162 = .ok (.lload_n 2, 1) := by decide +kernel
theorem dX10_folds_163 : decode cX10_folds 163 = .ok (.invokevirtual 77, 3) := by decide +kernel
theorem dX10_folds_166 : decode cX10_folds 166 = .ok (.aload_n 0, 1) := by decide +kernel
theorem dX10_folds_167 : decode cX10_folds 167 = .ok (.aload_n 1, 1) := by decide +kernel
theorem dX10_folds_168 : decode cX10_folds 168 = .ok (.invokevirtual 81, 3) := by decide +kernel
theorem dX10_folds_171 : decode cX10_folds 171 = .ok (.lstore_n 2, 1) := by decide +kernel
theorem dX10_folds_172 : decode cX10_folds 172 = .ok (.iinc 4 1, 3) := by decide +kernel
theorem dX10_folds_175 : decode cX10_folds 175 = .ok (.goto (-58), 3) := by decide +kernel
theorem dX10_folds_178 : decode cX10_folds 178 = .ok (.aload_n 1, 1) := by decide +kernel
theorem dX10_folds_179 : decode cX10_folds 179 = .ok (.getstatic 85, 3) := by decide +kernel
theorem dX10_folds_182 : decode cX10_folds 182 = .ok (.bipush 12, 2) := by decide +kernel
theorem dX10_folds_184 : decode cX10_folds 184 = .ok (.invokestatic 26, 3) := by decide +kernel
theorem dX10_folds_187 : decode cX10_folds 187 = .ok (.ifCond .lt 18, 3) := by decide +kernel
theorem dX10_folds_190 : decode cX10_folds 190 = .ok (.aload_n 1, 1) := by decide +kernel
theorem dX10_folds_191 : decode cX10_folds 191 = .ok (.getstatic 85, 3) := by decide +kernel
theorem dX10_folds_194 : decode cX10_folds 194 = .ok (.aload_n 1, 1) := by decide +kernel
theorem dX10_folds_195 : decode cX10_folds 195 = .ok (.bipush 12, 2) := by decide +kernel
theorem dX10_folds_197 : decode cX10_folds 197 = .ok (.invokestatic 30, 3) := by decide +kernel
theorem dX10_folds_200 : decode cX10_folds 200 = .ok (.i2l, 1) := by decide +kernel
theorem dX10_folds_201 : decode cX10_folds 201 = .ok (.lstore_n 2, 1) := by decide +kernel
theorem dX10_folds_202 : decode cX10_folds 202 = .ok (.goto (-24), 3) := by decide +kernel
theorem dX10_folds_205 : decode cX10_folds 205 = .ok (.return_, 1) := by decide +kernel
abbrev cX10_folded : ByteArray := prog_15_method_14_code
def yX10_folded : MethodName := ⟨RX10, "folded", "(IJ)V"⟩
theorem dX10_folded_0 : decode cX10_folded 0 = .ok (.aload_n 0, 1) := by decide +kernel
theorem dX10_folded_1 : decode cX10_folded 1 = .ok (.getfield 73, 3) := by decide +kernel
theorem dX10_folded_4 : decode cX10_folded 4 = .ok (.iload_n 1, 1) := by decide +kernel
theorem dX10_folded_5 : decode cX10_folded 5 = .ok (.dup2, 1) := by decide +kernel
theorem dX10_folded_6 : decode cX10_folded 6 = .ok (.laload, 1) := by decide +kernel
theorem dX10_folded_7 : decode cX10_folded 7 = .ok (.lload_n 2, 1) := by decide +kernel
theorem dX10_folded_8 : decode cX10_folded 8 = .ok (.ladd, 1) := by decide +kernel
theorem dX10_folded_9 : decode cX10_folded 9 = .ok (.lastore, 1) := by decide +kernel
theorem dX10_folded_10 : decode cX10_folded 10 = .ok (.aload_n 0, 1) := by decide +kernel
theorem dX10_folded_11 : decode cX10_folded 11 = .ok (.getfield 73, 3) := by decide +kernel
theorem dX10_folded_14 : decode cX10_folded 14 = .ok (.iload_n 1, 1) := by decide +kernel
theorem dX10_folded_15 : decode cX10_folded 15 = .ok (.iconst 1, 1) := by decide +kernel
theorem dX10_folded_16 : decode cX10_folded 16 = .ok (.iadd, 1) := by decide +kernel
theorem dX10_folded_17 : decode cX10_folded 17 = .ok (.dup2, 1) := by decide +kernel
theorem dX10_folded_18 : decode cX10_folded 18 = .ok (.laload, 1) := by decide +kernel
theorem dX10_folded_19 : decode cX10_folded 19 = .ok (.lload_n 2, 1) := by decide +kernel
theorem dX10_folded_20 : decode cX10_folded 20 = .ok (.lsub, 1) := by decide +kernel
theorem dX10_folded_21 : decode cX10_folded 21 = .ok (.lastore, 1) := by decide +kernel
theorem dX10_folded_22 : decode cX10_folded 22 = .ok (.aload_n 0, 1) := by decide +kernel
theorem dX10_folded_23 : decode cX10_folded 23 = .ok (.getfield 73, 3) := by decide +kernel
theorem dX10_folded_26 : decode cX10_folded 26 = .ok (.iload_n 1, 1) := by decide +kernel
theorem dX10_folded_27 : decode cX10_folded 27 = .ok (.iconst 3, 1) := by decide +kernel
theorem dX10_folded_28 : decode cX10_folded 28 = .ok (.iadd, 1) := by decide +kernel
theorem dX10_folded_29 : decode cX10_folded 29 = .ok (.dup2, 1) := by decide +kernel
theorem dX10_folded_30 : decode cX10_folded 30 = .ok (.laload, 1) := by decide +kernel
theorem dX10_folded_31 : decode cX10_folded 31 = .ok (.lload_n 2, 1) := by decide +kernel
theorem dX10_folded_32 : decode cX10_folded 32 = .ok (.ladd, 1) := by decide +kernel
theorem dX10_folded_33 : decode cX10_folded 33 = .ok (.lastore, 1) := by decide +kernel
theorem dX10_folded_34 : decode cX10_folded 34 = .ok (.aload_n 0, 1) := by decide +kernel
theorem dX10_folded_35 : decode cX10_folded 35 = .ok (.getfield 73, 3) := by decide +kernel
theorem dX10_folded_38 : decode cX10_folded 38 = .ok (.iload_n 1, 1) := by decide +kernel
theorem dX10_folded_39 : decode cX10_folded 39 = .ok (.iconst 4, 1) := by decide +kernel
theorem dX10_folded_40 : decode cX10_folded 40 = .ok (.iadd, 1) := by decide +kernel
theorem dX10_folded_41 : decode cX10_folded 41 = .ok (.dup2, 1) := by decide +kernel
theorem dX10_folded_42 : decode cX10_folded 42 = .ok (.laload, 1) := by decide +kernel
theorem dX10_folded_43 : decode cX10_folded 43 = .ok (.lload_n 2, 1) := by decide +kernel
theorem dX10_folded_44 : decode cX10_folded 44 = .ok (.ladd, 1) := by decide +kernel
theorem dX10_folded_45 : decode cX10_folded 45 = .ok (.lastore, 1) := by decide +kernel
theorem dX10_folded_46 : decode cX10_folded 46 = .ok (.return_, 1) := by decide +kernel
abbrev cX10_carried : ByteArray := prog_15_method_16_code
def yX10_carried : MethodName := ⟨RX10, "carried", "([I)J"⟩
theorem dX10_carried_0 : decode cX10_carried 0 = .ok (.lconst 0, 1) := by decide +kernel
theorem dX10_carried_1 : decode cX10_carried 1 = .ok (.lstore_n 2, 1) := by decide +kernel
theorem dX10_carried_2 : decode cX10_carried 2 = .ok (.iconst 0, 1) := by decide +kernel
theorem dX10_carried_3 : decode cX10_carried 3 = .ok (.istore 4, 2) := by decide +kernel
theorem dX10_carried_5 : decode cX10_carried 5 = .ok (.iload 4, 2) := by decide +kernel
theorem dX10_carried_7 : decode cX10_carried 7 = .ok (.bipush 12, 2) := by decide +kernel
theorem dX10_carried_9 : decode cX10_carried 9 = .ok (.if_icmp .ge 30, 3) := by decide +kernel
theorem dX10_carried_12 : decode cX10_carried 12 = .ok (.lload_n 2, 1) := by decide +kernel
theorem dX10_carried_13 : decode cX10_carried 13 = .ok (.aload_n 0, 1) := by decide +kernel
theorem dX10_carried_14 : decode cX10_carried 14 = .ok (.getfield 73, 3) := by decide +kernel
theorem dX10_carried_17 : decode cX10_carried 17 = .ok (.iload 4, 2) := by decide +kernel
theorem dX10_carried_19 : decode cX10_carried 19 = .ok (.laload, 1) := by decide +kernel
theorem dX10_carried_20 : decode cX10_carried 20 = .ok (.ladd, 1) := by decide +kernel
theorem dX10_carried_21 : decode cX10_carried 21 = .ok (.lstore_n 2, 1) := by decide +kernel
theorem dX10_carried_22 : decode cX10_carried 22 = .ok (.aload_n 1, 1) := by decide +kernel
theorem dX10_carried_23 : decode cX10_carried 23 = .ok (.iload 4, 2) := by decide +kernel
theorem dX10_carried_25 : decode cX10_carried 25 = .ok (.lload_n 2, 1) := by decide +kernel
theorem dX10_carried_26 : decode cX10_carried 26 = .ok (.l2i, 1) := by decide +kernel
theorem dX10_carried_27 : decode cX10_carried 27 = .ok (.iastore, 1) := by decide +kernel
theorem dX10_carried_28 : decode cX10_carried 28 = .ok (.lload_n 2, 1) := by decide +kernel
theorem dX10_carried_29 : decode cX10_carried 29 = .ok (.bipush 32, 2) := by decide +kernel
theorem dX10_carried_31 : decode cX10_carried 31 = .ok (.lshr, 1) := by decide +kernel
theorem dX10_carried_32 : decode cX10_carried 32 = .ok (.lstore_n 2, 1) := by decide +kernel
theorem dX10_carried_33 : decode cX10_carried 33 = .ok (.iinc 4 1, 3) := by decide +kernel
theorem dX10_carried_36 : decode cX10_carried 36 = .ok (.goto (-31), 3) := by decide +kernel
theorem dX10_carried_39 : decode cX10_carried 39 = .ok (.lload_n 2, 1) := by decide +kernel
theorem dX10_carried_40 : decode cX10_carried 40 = .ok (.lreturn, 1) := by decide +kernel
abbrev cX10_rest : ByteArray := prog_15_method_11_code
def yX10_rest : MethodName := ⟨RX10, "rest", "(LVeilMintModel$Mod;I[I)V"⟩
theorem dX10_rest_0 : decode cX10_rest 0 = .ok (.aload_n 1, 1) := by decide +kernel
theorem dX10_rest_1 : decode cX10_rest 1 = .ok (.getfield 13, 3) := by decide +kernel
theorem dX10_rest_4 : decode cX10_rest 4 = .ok (.istore 4, 2) := by decide +kernel
theorem dX10_rest_6 : decode cX10_rest 6 = .ok (.aload_n 1, 1) := by decide +kernel
theorem dX10_rest_7 : decode cX10_rest 7 = .ok (.getfield 33, 3) := by decide +kernel
theorem dX10_rest_10 : decode cX10_rest 10 = .ok (.istore 5, 2) := by decide +kernel
theorem dX10_rest_12 : decode cX10_rest 12 = .ok (.aload_n 0, 1) := by decide +kernel
theorem dX10_rest_13 : decode cX10_rest 13 = .ok (.getfield 36, 3) := by decide +kernel
theorem dX10_rest_16 : decode cX10_rest 16 = .ok (.iload_n 2, 1) := by decide +kernel
theorem dX10_rest_17 : decode cX10_rest 17 = .ok (.iload 5, 2) := by decide +kernel
theorem dX10_rest_19 : decode cX10_rest 19 = .ok (.ifCond .le 20, 3) := by decide +kernel
theorem dX10_rest_22 : decode cX10_rest 22 = .ok (.aload_n 0, 1) := by decide +kernel
theorem dX10_rest_23 : decode cX10_rest 23 = .ok (.getfield 36, 3) := by decide +kernel
theorem dX10_rest_26 : decode cX10_rest 26 = .ok (.iload_n 2, 1) := by decide +kernel
theorem dX10_rest_27 : decode cX10_rest 27 = .ok (.iconst 1, 1) := by decide +kernel
theorem dX10_rest_28 : decode cX10_rest 28 = .ok (.isub, 1) := by decide +kernel
theorem dX10_rest_29 : decode cX10_rest 29 = .ok (.iaload, 1) := by decide +kernel
theorem dX10_rest_30 : decode cX10_rest 30 = .ok (.bipush 32, 2) := by decide +kernel
theorem dX10_rest_32 : decode cX10_rest 32 = .ok (.iload 5, 2) := by decide +kernel
theorem dX10_rest_34 : decode cX10_rest 34 = .ok (.isub, 1) := by decide +kernel
theorem dX10_rest_35 : decode cX10_rest 35 = .ok (.iushr, 1) := by decide +kernel
theorem dX10_rest_36 : decode cX10_rest 36 = .ok (.goto 4, 3) := by decide +kernel
theorem dX10_rest_39 : decode cX10_rest 39 = .ok (.iconst 0, 1) := by decide +kernel
theorem dX10_rest_40 : decode cX10_rest 40 = .ok (.iastore, 1) := by decide +kernel
theorem dX10_rest_41 : decode cX10_rest 41 = .ok (.iload_n 2, 1) := by decide +kernel
theorem dX10_rest_42 : decode cX10_rest 42 = .ok (.iconst 1, 1) := by decide +kernel
theorem dX10_rest_43 : decode cX10_rest 43 = .ok (.isub, 1) := by decide +kernel
theorem dX10_rest_44 : decode cX10_rest 44 = .ok (.istore 6, 2) := by decide +kernel
theorem dX10_rest_46 : decode cX10_rest 46 = .ok (.iload 6, 2) := by decide +kernel
theorem dX10_rest_48 : decode cX10_rest 48 = .ok (.ifCond .lt 56, 3) := by decide +kernel
theorem dX10_rest_51 : decode cX10_rest 51 = .ok (.aload_n 0, 1) := by decide +kernel
theorem dX10_rest_52 : decode cX10_rest 52 = .ok (.getfield 36, 3) := by decide +kernel
theorem dX10_rest_55 : decode cX10_rest 55 = .ok (.iload 6, 2) := by decide +kernel
theorem dX10_rest_57 : decode cX10_rest 57 = .ok (.aload_n 0, 1) := by decide +kernel
theorem dX10_rest_58 : decode cX10_rest 58 = .ok (.getfield 36, 3) := by decide +kernel
theorem dX10_rest_61 : decode cX10_rest 61 = .ok (.iload 6, 2) := by decide +kernel
theorem dX10_rest_63 : decode cX10_rest 63 = .ok (.iaload, 1) := by decide +kernel
theorem dX10_rest_64 : decode cX10_rest 64 = .ok (.iload 5, 2) := by decide +kernel
theorem dX10_rest_66 : decode cX10_rest 66 = .ok (.ishl, 1) := by decide +kernel
theorem dX10_rest_67 : decode cX10_rest 67 = .ok (.iload 5, 2) := by decide +kernel
theorem dX10_rest_69 : decode cX10_rest 69 = .ok (.ifCond .le 26, 3) := by decide +kernel
theorem dX10_rest_72 : decode cX10_rest 72 = .ok (.iload 6, 2) := by decide +kernel
theorem dX10_rest_74 : decode cX10_rest 74 = .ok (.ifCond .le 21, 3) := by decide +kernel
theorem dX10_rest_77 : decode cX10_rest 77 = .ok (.aload_n 0, 1) := by decide +kernel
theorem dX10_rest_78 : decode cX10_rest 78 = .ok (.getfield 36, 3) := by decide +kernel
theorem dX10_rest_81 : decode cX10_rest 81 = .ok (.iload 6, 2) := by decide +kernel
theorem dX10_rest_83 : decode cX10_rest 83 = .ok (.iconst 1, 1) := by decide +kernel
theorem dX10_rest_84 : decode cX10_rest 84 = .ok (.isub, 1) := by decide +kernel
theorem dX10_rest_85 : decode cX10_rest 85 = .ok (.iaload, 1) := by decide +kernel
theorem dX10_rest_86 : decode cX10_rest 86 = .ok (.bipush 32, 2) := by decide +kernel
theorem dX10_rest_88 : decode cX10_rest 88 = .ok (.iload 5, 2) := by decide +kernel
theorem dX10_rest_90 : decode cX10_rest 90 = .ok (.isub, 1) := by decide +kernel
theorem dX10_rest_91 : decode cX10_rest 91 = .ok (.iushr, 1) := by decide +kernel
theorem dX10_rest_92 : decode cX10_rest 92 = .ok (.goto 4, 3) := by decide +kernel
theorem dX10_rest_95 : decode cX10_rest 95 = .ok (.iconst 0, 1) := by decide +kernel
theorem dX10_rest_96 : decode cX10_rest 96 = .ok (.ior, 1) := by decide +kernel
theorem dX10_rest_97 : decode cX10_rest 97 = .ok (.iastore, 1) := by decide +kernel
theorem dX10_rest_98 : decode cX10_rest 98 = .ok (.iinc 6 (-1), 3) := by decide +kernel
theorem dX10_rest_101 : decode cX10_rest 101 = .ok (.goto (-55), 3) := by decide +kernel
theorem dX10_rest_104 : decode cX10_rest 104 = .ok (.aload_n 1, 1) := by decide +kernel
theorem dX10_rest_105 : decode cX10_rest 105 = .ok (.getfield 39, 3) := by decide +kernel
theorem dX10_rest_108 : decode cX10_rest 108 = .ok (.iload 4, 2) := by decide +kernel
theorem dX10_rest_110 : decode cX10_rest 110 = .ok (.iconst 1, 1) := by decide +kernel
theorem dX10_rest_111 : decode cX10_rest 111 = .ok (.isub, 1) := by decide +kernel
theorem dX10_rest_112 : decode cX10_rest 112 = .ok (.iaload, 1) := by decide +kernel
theorem dX10_rest_113 : decode cX10_rest 113 = .ok (.invokestatic 9, 3) := by decide +kernel
theorem dX10_rest_116 : decode cX10_rest 116 = .ok (.lstore 6, 2) := by decide +kernel
theorem dX10_rest_118 : decode cX10_rest 118 = .ok (.iload_n 2, 1) := by decide +kernel
theorem dX10_rest_119 : decode cX10_rest 119 = .ok (.iload 4, 2) := by decide +kernel
theorem dX10_rest_121 : decode cX10_rest 121 = .ok (.isub, 1) := by decide +kernel
theorem dX10_rest_122 : decode cX10_rest 122 = .ok (.istore 8, 2) := by decide +kernel
theorem dX10_rest_124 : decode cX10_rest 124 = .ok (.iload 8, 2) := by decide +kernel
theorem dX10_rest_126 : decode cX10_rest 126 = .ok (.ifCond .lt 184, 3) := by decide +kernel
theorem dX10_rest_129 : decode cX10_rest 129 = .ok (.aload_n 0, 1) := by decide +kernel
theorem dX10_rest_130 : decode cX10_rest 130 = .ok (.getfield 36, 3) := by decide +kernel
theorem dX10_rest_133 : decode cX10_rest 133 = .ok (.iload 8, 2) := by decide +kernel
theorem dX10_rest_135 : decode cX10_rest 135 = .ok (.iload 4, 2) := by decide +kernel
theorem dX10_rest_137 : decode cX10_rest 137 = .ok (.iadd, 1) := by decide +kernel
theorem dX10_rest_138 : decode cX10_rest 138 = .ok (.iaload, 1) := by decide +kernel
theorem dX10_rest_139 : decode cX10_rest 139 = .ok (.invokestatic 9, 3) := by decide +kernel
theorem dX10_rest_142 : decode cX10_rest 142 = .ok (.lload 6, 2) := by decide +kernel
theorem dX10_rest_144 : decode cX10_rest 144 = .ok (.lcmp, 1) := by decide +kernel
theorem dX10_rest_145 : decode cX10_rest 145 = .ok (.ifCond .ne 31, 3) := by decide +kernel
theorem dX10_rest_148 : decode cX10_rest 148 = .ok (.ldc2_w 7, 3) := by decide +kernel
theorem dX10_rest_151 : decode cX10_rest 151 = .ok (.lstore 9, 2) := by decide +kernel
theorem dX10_rest_153 : decode cX10_rest 153 = .ok (.aload_n 0, 1) := by decide +kernel
theorem dX10_rest_154 : decode cX10_rest 154 = .ok (.getfield 36, 3) := by decide +kernel
theorem dX10_rest_157 : decode cX10_rest 157 = .ok (.iload 8, 2) := by decide +kernel
theorem dX10_rest_159 : decode cX10_rest 159 = .ok (.iload 4, 2) := by decide +kernel
theorem dX10_rest_161 : decode cX10_rest 161 = .ok (.iadd, 1) := by decide +kernel
theorem dX10_rest_162 : decode cX10_rest 162 = .ok (.iconst 1, 1) := by decide +kernel
theorem dX10_rest_163 : decode cX10_rest 163 = .ok (.isub, 1) := by decide +kernel
theorem dX10_rest_164 : decode cX10_rest 164 = .ok (.iaload, 1) := by decide +kernel
theorem dX10_rest_165 : decode cX10_rest 165 = .ok (.invokestatic 9, 3) := by decide +kernel
theorem dX10_rest_168 : decode cX10_rest 168 = .ok (.lload 6, 2) := by decide +kernel
theorem dX10_rest_170 : decode cX10_rest 170 = .ok (.ladd, 1) := by decide +kernel
theorem dX10_rest_171 : decode cX10_rest 171 = .ok (.lstore 11, 2) := by decide +kernel
theorem dX10_rest_173 : decode cX10_rest 173 = .ok (.goto 55, 3) := by decide +kernel
theorem dX10_rest_176 : decode cX10_rest 176 = .ok (.aload_n 0, 1) := by decide +kernel
theorem dX10_rest_177 : decode cX10_rest 177 = .ok (.getfield 36, 3) := by decide +kernel
theorem dX10_rest_180 : decode cX10_rest 180 = .ok (.iload 8, 2) := by decide +kernel
theorem dX10_rest_182 : decode cX10_rest 182 = .ok (.iload 4, 2) := by decide +kernel
theorem dX10_rest_184 : decode cX10_rest 184 = .ok (.iadd, 1) := by decide +kernel
theorem dX10_rest_185 : decode cX10_rest 185 = .ok (.iaload, 1) := by decide +kernel
theorem dX10_rest_186 : decode cX10_rest 186 = .ok (.invokestatic 9, 3) := by decide +kernel
theorem dX10_rest_189 : decode cX10_rest 189 = .ok (.bipush 32, 2) := by decide +kernel
theorem dX10_rest_191 : decode cX10_rest 191 = .ok (.lshl, 1) := by decide +kernel
theorem dX10_rest_192 : decode cX10_rest 192 = .ok (.aload_n 0, 1) := by decide +kernel
theorem dX10_rest_193 : decode cX10_rest 193 = .ok (.getfield 36, 3) := by decide +kernel
theorem dX10_rest_196 : decode cX10_rest 196 = .ok (.iload 8, 2) := by decide +kernel
theorem dX10_rest_198 : decode cX10_rest 198 = .ok (.iload 4, 2) := by decide +kernel
theorem dX10_rest_200 : decode cX10_rest 200 = .ok (.iadd, 1) := by decide +kernel
theorem dX10_rest_201 : decode cX10_rest 201 = .ok (.iconst 1, 1) := by decide +kernel
theorem dX10_rest_202 : decode cX10_rest 202 = .ok (.isub, 1) := by decide +kernel
theorem dX10_rest_203 : decode cX10_rest 203 = .ok (.iaload, 1) := by decide +kernel
theorem dX10_rest_204 : decode cX10_rest 204 = .ok (.invokestatic 9, 3) := by decide +kernel
theorem dX10_rest_207 : decode cX10_rest 207 = .ok (.lor, 1) := by decide +kernel
theorem dX10_rest_208 : decode cX10_rest 208 = .ok (.lstore 13, 2) := by decide +kernel
theorem dX10_rest_210 : decode cX10_rest 210 = .ok (.lload 13, 2) := by decide +kernel
theorem dX10_rest_212 : decode cX10_rest 212 = .ok (.lload 6, 2) := by decide +kernel
theorem dX10_rest_214 : decode cX10_rest 214 = .ok (.invokestatic 42, 3) := by decide +kernel
theorem dX10_rest_217 : decode cX10_rest 217 = .ok (.lstore 9, 2) := by decide +kernel
theorem dX10_rest_219 : decode cX10_rest 219 = .ok (.lload 13, 2) := by decide +kernel
theorem dX10_rest_221 : decode cX10_rest 221 = .ok (.lload 6, 2) := by decide +kernel
theorem dX10_rest_223 : decode cX10_rest 223 = .ok (.invokestatic 48, 3) := by decide +kernel
theorem dX10_rest_226 : decode cX10_rest 226 = .ok (.lstore 11, 2) := by decide +kernel
theorem dX10_rest_228 : decode cX10_rest 228 = .ok (.lload 11, 2) := by decide +kernel
theorem dX10_rest_230 : decode cX10_rest 230 = .ok (.ldc2_w 51, 3) := by decide +kernel
theorem dX10_rest_233 : decode cX10_rest 233 = .ok (.lcmp, 1) := by decide +kernel
theorem dX10_rest_234 : decode cX10_rest 234 = .ok (.ifCond .ge 61, 3) := by decide +kernel
theorem dX10_rest_237 : decode cX10_rest 237 = .ok (.lload 9, 2) := by decide +kernel
theorem dX10_rest_239 : decode cX10_rest 239 = .ok (.aload_n 1, 1) := by decide +kernel
theorem dX10_rest_240 : decode cX10_rest 240 = .ok (.getfield 39, 3) := by decide +kernel
theorem dX10_rest_243 : decode cX10_rest 243 = .ok (.iload 4, 2) := by decide +kernel
theorem dX10_rest_245 : decode cX10_rest 245 = .ok (.iconst 2, 1) := by decide +kernel
theorem dX10_rest_246 : decode cX10_rest 246 = .ok (.isub, 1) := by decide +kernel
theorem dX10_rest_247 : decode cX10_rest 247 = .ok (.iaload, 1) := by decide +kernel
theorem dX10_rest_248 : decode cX10_rest 248 = .ok (.invokestatic 9, 3) := by decide +kernel
theorem dX10_rest_251 : decode cX10_rest 251 = .ok (.lmul, 1) := by decide +kernel
theorem dX10_rest_252 : decode cX10_rest 252 = .ok (.lload 11, 2) := by decide +kernel
theorem dX10_rest_254 : decode cX10_rest 254 = .ok (.bipush 32, 2) := by decide +kernel
theorem dX10_rest_256 : decode cX10_rest 256 = .ok (.lshl, 1) := by decide +kernel
theorem dX10_rest_257 : decode cX10_rest 257 = .ok (.aload_n 0, 1) := by decide +kernel
theorem dX10_rest_258 : decode cX10_rest 258 = .ok (.getfield 36, 3) := by decide +kernel
theorem dX10_rest_261 : decode cX10_rest 261 = .ok (.iload 8, 2) := by decide +kernel
theorem dX10_rest_263 : decode cX10_rest 263 = .ok (.iload 4, 2) := by decide +kernel
theorem dX10_rest_265 : decode cX10_rest 265 = .ok (.iadd, 1) := by decide +kernel
theorem dX10_rest_266 : decode cX10_rest 266 = .ok (.iconst 2, 1) := by decide +kernel
theorem dX10_rest_267 : decode cX10_rest 267 = .ok (.isub, 1) := by decide +kernel
theorem dX10_rest_268 : decode cX10_rest 268 = .ok (.iaload, 1) := by decide +kernel
theorem dX10_rest_269 : decode cX10_rest 269 = .ok (.invokestatic 9, 3) := by decide +kernel
theorem dX10_rest_272 : decode cX10_rest 272 = .ok (.lor, 1) := by decide +kernel
theorem dX10_rest_273 : decode cX10_rest 273 = .ok (.invokestatic 53, 3) := by decide +kernel
theorem dX10_rest_276 : decode cX10_rest 276 = .ok (.ifCond .le 19, 3) := by decide +kernel
theorem dX10_rest_279 : decode cX10_rest 279 = .ok (.lload 9, 2) := by decide +kernel
theorem dX10_rest_281 : decode cX10_rest 281 = .ok (.lconst 1, 1) := by decide +kernel
theorem dX10_rest_282 : decode cX10_rest 282 = .ok (.lsub, 1) := by decide +kernel
theorem dX10_rest_283 : decode cX10_rest 283 = .ok (.lstore 9, 2) := by decide +kernel
theorem dX10_rest_285 : decode cX10_rest 285 = .ok (.lload 11, 2) := by decide +kernel
theorem dX10_rest_287 : decode cX10_rest 287 = .ok (.lload 6, 2) := by decide +kernel
theorem dX10_rest_289 : decode cX10_rest 289 = .ok (.ladd, 1) := by decide +kernel
theorem dX10_rest_290 : decode cX10_rest 290 = .ok (.lstore 11, 2) := by decide +kernel
theorem dX10_rest_292 : decode cX10_rest 292 = .ok (.goto (-64), 3) := by decide +kernel
theorem dX10_rest_295 : decode cX10_rest 295 = .ok (.aload_n 0, 1) := by decide +kernel
theorem dX10_rest_296 : decode cX10_rest 296 = .ok (.aload_n 1, 1) := by decide +kernel
theorem dX10_rest_297 : decode cX10_rest 297 = .ok (.iload 8, 2) := by decide +kernel
theorem dX10_rest_299 : decode cX10_rest 299 = .ok (.lload 9, 2) := by decide +kernel
theorem dX10_rest_301 : decode cX10_rest 301 = .ok (.invokevirtual 57, 3) := by decide +kernel
theorem dX10_rest_304 : decode cX10_rest 304 = .ok (.iinc 8 (-1), 3) := by decide +kernel
theorem dX10_rest_307 : decode cX10_rest 307 = .ok (.goto (-183), 3) := by decide +kernel
theorem dX10_rest_310 : decode cX10_rest 310 = .ok (.iconst 0, 1) := by decide +kernel
theorem dX10_rest_311 : decode cX10_rest 311 = .ok (.istore 8, 2) := by decide +kernel
theorem dX10_rest_313 : decode cX10_rest 313 = .ok (.iload 8, 2) := by decide +kernel
theorem dX10_rest_315 : decode cX10_rest 315 = .ok (.iload 4, 2) := by decide +kernel
theorem dX10_rest_317 : decode cX10_rest 317 = .ok (.if_icmp .ge 48, 3) := by decide +kernel
theorem dX10_rest_320 : decode cX10_rest 320 = .ok (.aload_n 3, 1) := by decide +kernel
theorem dX10_rest_321 : decode cX10_rest 321 = .ok (.iload 8, 2) := by decide +kernel
theorem dX10_rest_323 : decode cX10_rest 323 = .ok (.aload_n 0, 1) := by decide +kernel
theorem dX10_rest_324 : decode cX10_rest 324 = .ok (.getfield 36, 3) := by decide +kernel
theorem dX10_rest_327 : decode cX10_rest 327 = .ok (.iload 8, 2) := by decide +kernel
theorem dX10_rest_329 : decode cX10_rest 329 = .ok (.iaload, 1) := by decide +kernel
theorem dX10_rest_330 : decode cX10_rest 330 = .ok (.iload 5, 2) := by decide +kernel
theorem dX10_rest_332 : decode cX10_rest 332 = .ok (.iushr, 1) := by decide +kernel
theorem dX10_rest_333 : decode cX10_rest 333 = .ok (.iload 5, 2) := by decide +kernel
theorem dX10_rest_335 : decode cX10_rest 335 = .ok (.ifCond .le 21, 3) := by decide +kernel
theorem dX10_rest_338 : decode cX10_rest 338 = .ok (.aload_n 0, 1) := by decide +kernel
theorem dX10_rest_339 : decode cX10_rest 339 = .ok (.getfield 36, 3) := by decide +kernel
theorem dX10_rest_342 : decode cX10_rest 342 = .ok (.iload 8, 2) := by decide +kernel
theorem dX10_rest_344 : decode cX10_rest 344 = .ok (.iconst 1, 1) := by decide +kernel
theorem dX10_rest_345 : decode cX10_rest 345 = .ok (.iadd, 1) := by decide +kernel
theorem dX10_rest_346 : decode cX10_rest 346 = .ok (.iaload, 1) := by decide +kernel
theorem dX10_rest_347 : decode cX10_rest 347 = .ok (.bipush 32, 2) := by decide +kernel
theorem dX10_rest_349 : decode cX10_rest 349 = .ok (.iload 5, 2) := by decide +kernel
theorem dX10_rest_351 : decode cX10_rest 351 = .ok (.isub, 1) := by decide +kernel
theorem dX10_rest_352 : decode cX10_rest 352 = .ok (.ishl, 1) := by decide +kernel
theorem dX10_rest_353 : decode cX10_rest 353 = .ok (.goto 4, 3) := by decide +kernel
theorem dX10_rest_356 : decode cX10_rest 356 = .ok (.iconst 0, 1) := by decide +kernel
theorem dX10_rest_357 : decode cX10_rest 357 = .ok (.ior, 1) := by decide +kernel
theorem dX10_rest_358 : decode cX10_rest 358 = .ok (.iastore, 1) := by decide +kernel
theorem dX10_rest_359 : decode cX10_rest 359 = .ok (.iinc 8 1, 3) := by decide +kernel
theorem dX10_rest_362 : decode cX10_rest 362 = .ok (.goto (-49), 3) := by decide +kernel
theorem dX10_rest_365 : decode cX10_rest 365 = .ok (.return_, 1) := by decide +kernel
abbrev cX10_takes : ByteArray := prog_15_method_12_code
def yX10_takes : MethodName := ⟨RX10, "takes", "(LVeilMintModel$Mod;IJ)V"⟩
theorem dX10_takes_0 : decode cX10_takes 0 = .ok (.lconst 0, 1) := by decide +kernel
theorem dX10_takes_1 : decode cX10_takes 1 = .ok (.lstore 5, 2) := by decide +kernel
theorem dX10_takes_3 : decode cX10_takes 3 = .ok (.lconst 0, 1) := by decide +kernel
theorem dX10_takes_4 : decode cX10_takes 4 = .ok (.lstore 7, 2) := by decide +kernel
theorem dX10_takes_6 : decode cX10_takes 6 = .ok (.iconst 0, 1) := by decide +kernel
theorem dX10_takes_7 : decode cX10_takes 7 = .ok (.istore 9, 2) := by decide +kernel
theorem dX10_takes_9 : decode cX10_takes 9 = .ok (.iload 9, 2) := by decide +kernel
theorem dX10_takes_11 : decode cX10_takes 11 = .ok (.aload_n 1, 1) := by decide +kernel
theorem dX10_takes_12 : decode cX10_takes 12 = .ok (.getfield 13, 3) := by decide +kernel
theorem dX10_takes_15 : decode cX10_takes 15 = .ok (.if_icmp .ge 76, 3) := by decide +kernel
theorem dX10_takes_18 : decode cX10_takes 18 = .ok (.lload 5, 2) := by decide +kernel
theorem dX10_takes_20 : decode cX10_takes 20 = .ok (.lload_n 3, 1) := by decide +kernel
theorem dX10_takes_21 : decode cX10_takes 21 = .ok (.aload_n 1, 1) := by decide +kernel
theorem dX10_takes_22 : decode cX10_takes 22 = .ok (.getfield 39, 3) := by decide +kernel
theorem dX10_takes_25 : decode cX10_takes 25 = .ok (.iload 9, 2) := by decide +kernel
theorem dX10_takes_27 : decode cX10_takes 27 = .ok (.iaload, 1) := by decide +kernel
theorem dX10_takes_28 : decode cX10_takes 28 = .ok (.invokestatic 9, 3) := by decide +kernel
theorem dX10_takes_31 : decode cX10_takes 31 = .ok (.lmul, 1) := by decide +kernel
theorem dX10_takes_32 : decode cX10_takes 32 = .ok (.ladd, 1) := by decide +kernel
theorem dX10_takes_33 : decode cX10_takes 33 = .ok (.lstore 5, 2) := by decide +kernel
theorem dX10_takes_35 : decode cX10_takes 35 = .ok (.lload 7, 2) := by decide +kernel
theorem dX10_takes_37 : decode cX10_takes 37 = .ok (.aload_n 0, 1) := by decide +kernel
theorem dX10_takes_38 : decode cX10_takes 38 = .ok (.getfield 36, 3) := by decide +kernel
theorem dX10_takes_41 : decode cX10_takes 41 = .ok (.iload_n 2, 1) := by decide +kernel
theorem dX10_takes_42 : decode cX10_takes 42 = .ok (.iload 9, 2) := by decide +kernel
theorem dX10_takes_44 : decode cX10_takes 44 = .ok (.iadd, 1) := by decide +kernel
theorem dX10_takes_45 : decode cX10_takes 45 = .ok (.iaload, 1) := by decide +kernel
theorem dX10_takes_46 : decode cX10_takes 46 = .ok (.invokestatic 9, 3) := by decide +kernel
theorem dX10_takes_49 : decode cX10_takes 49 = .ok (.lload 5, 2) := by decide +kernel
theorem dX10_takes_51 : decode cX10_takes 51 = .ok (.ldc2_w 7, 3) := by decide +kernel
theorem dX10_takes_54 : decode cX10_takes 54 = .ok (.land, 1) := by decide +kernel
theorem dX10_takes_55 : decode cX10_takes 55 = .ok (.lsub, 1) := by decide +kernel
theorem dX10_takes_56 : decode cX10_takes 56 = .ok (.ladd, 1) := by decide +kernel
theorem dX10_takes_57 : decode cX10_takes 57 = .ok (.lstore 7, 2) := by decide +kernel
theorem dX10_takes_59 : decode cX10_takes 59 = .ok (.aload_n 0, 1) := by decide +kernel
theorem dX10_takes_60 : decode cX10_takes 60 = .ok (.getfield 36, 3) := by decide +kernel
theorem dX10_takes_63 : decode cX10_takes 63 = .ok (.iload_n 2, 1) := by decide +kernel
theorem dX10_takes_64 : decode cX10_takes 64 = .ok (.iload 9, 2) := by decide +kernel
theorem dX10_takes_66 : decode cX10_takes 66 = .ok (.iadd, 1) := by decide +kernel
theorem dX10_takes_67 : decode cX10_takes 67 = .ok (.lload 7, 2) := by decide +kernel
theorem dX10_takes_69 : decode cX10_takes 69 = .ok (.l2i, 1) := by decide +kernel
theorem dX10_takes_70 : decode cX10_takes 70 = .ok (.iastore, 1) := by decide +kernel
theorem dX10_takes_71 : decode cX10_takes 71 = .ok (.lload 5, 2) := by decide +kernel
theorem dX10_takes_73 : decode cX10_takes 73 = .ok (.bipush 32, 2) := by decide +kernel
theorem dX10_takes_75 : decode cX10_takes 75 = .ok (.lushr, 1) := by decide +kernel
theorem dX10_takes_76 : decode cX10_takes 76 = .ok (.lstore 5, 2) := by decide +kernel
theorem dX10_takes_78 : decode cX10_takes 78 = .ok (.lload 7, 2) := by decide +kernel
theorem dX10_takes_80 : decode cX10_takes 80 = .ok (.bipush 32, 2) := by decide +kernel
theorem dX10_takes_82 : decode cX10_takes 82 = .ok (.lshr, 1) := by decide +kernel
theorem dX10_takes_83 : decode cX10_takes 83 = .ok (.lstore 7, 2) := by decide +kernel
theorem dX10_takes_85 : decode cX10_takes 85 = .ok (.iinc 9 1, 3) := by decide +kernel
theorem dX10_takes_88 : decode cX10_takes 88 = .ok (.goto (-79), 3) := by decide +kernel
theorem dX10_takes_91 : decode cX10_takes 91 = .ok (.lload 7, 2) := by decide +kernel
theorem dX10_takes_93 : decode cX10_takes 93 = .ok (.aload_n 0, 1) := by decide +kernel
theorem dX10_takes_94 : decode cX10_takes 94 = .ok (.getfield 36, 3) := by decide +kernel
theorem dX10_takes_97 : decode cX10_takes 97 = .ok (.iload_n 2, 1) := by decide +kernel
theorem dX10_takes_98 : decode cX10_takes 98 = .ok (.aload_n 1, 1) := by decide +kernel
theorem dX10_takes_99 : decode cX10_takes 99 = .ok (.getfield 13, 3) := by decide +kernel
theorem dX10_takes_102 : decode cX10_takes 102 = .ok (.iadd, 1) := by decide +kernel
theorem dX10_takes_103 : decode cX10_takes 103 = .ok (.iaload, 1) := by decide +kernel
theorem dX10_takes_104 : decode cX10_takes 104 = .ok (.invokestatic 9, 3) := by decide +kernel
theorem dX10_takes_107 : decode cX10_takes 107 = .ok (.lload 5, 2) := by decide +kernel
theorem dX10_takes_109 : decode cX10_takes 109 = .ok (.lsub, 1) := by decide +kernel
theorem dX10_takes_110 : decode cX10_takes 110 = .ok (.ladd, 1) := by decide +kernel
theorem dX10_takes_111 : decode cX10_takes 111 = .ok (.lstore 7, 2) := by decide +kernel
theorem dX10_takes_113 : decode cX10_takes 113 = .ok (.aload_n 0, 1) := by decide +kernel
theorem dX10_takes_114 : decode cX10_takes 114 = .ok (.getfield 36, 3) := by decide +kernel
theorem dX10_takes_117 : decode cX10_takes 117 = .ok (.iload_n 2, 1) := by decide +kernel
theorem dX10_takes_118 : decode cX10_takes 118 = .ok (.aload_n 1, 1) := by decide +kernel
theorem dX10_takes_119 : decode cX10_takes 119 = .ok (.getfield 13, 3) := by decide +kernel
theorem dX10_takes_122 : decode cX10_takes 122 = .ok (.iadd, 1) := by decide +kernel
theorem dX10_takes_123 : decode cX10_takes 123 = .ok (.lload 7, 2) := by decide +kernel
theorem dX10_takes_125 : decode cX10_takes 125 = .ok (.l2i, 1) := by decide +kernel
theorem dX10_takes_126 : decode cX10_takes 126 = .ok (.iastore, 1) := by decide +kernel
theorem dX10_takes_127 : decode cX10_takes 127 = .ok (.lload 7, 2) := by decide +kernel
theorem dX10_takes_129 : decode cX10_takes 129 = .ok (.bipush 32, 2) := by decide +kernel
theorem dX10_takes_131 : decode cX10_takes 131 = .ok (.lshr, 1) := by decide +kernel
theorem dX10_takes_132 : decode cX10_takes 132 = .ok (.lconst 0, 1) := by decide +kernel
theorem dX10_takes_133 : decode cX10_takes 133 = .ok (.lcmp, 1) := by decide +kernel
theorem dX10_takes_134 : decode cX10_takes 134 = .ok (.ifCond .ne 4, 3) := by decide +kernel
theorem dX10_takes_137 : decode cX10_takes 137 = .ok (.return_, 1) := by decide +kernel
theorem dX10_takes_138 : decode cX10_takes 138 = .ok (.lconst 0, 1) := by decide +kernel
theorem dX10_takes_139 : decode cX10_takes 139 = .ok (.lstore 7, 2) := by decide +kernel
theorem dX10_takes_141 : decode cX10_takes 141 = .ok (.iconst 0, 1) := by decide +kernel
theorem dX10_takes_142 : decode cX10_takes 142 = .ok (.istore 9, 2) := by decide +kernel
theorem dX10_takes_144 : decode cX10_takes 144 = .ok (.iload 9, 2) := by decide +kernel
theorem dX10_takes_146 : decode cX10_takes 146 = .ok (.aload_n 1, 1) := by decide +kernel
theorem dX10_takes_147 : decode cX10_takes 147 = .ok (.getfield 13, 3) := by decide +kernel
theorem dX10_takes_150 : decode cX10_takes 150 = .ok (.if_icmp .ge 56, 3) := by decide +kernel
theorem dX10_takes_153 : decode cX10_takes 153 = .ok (.lload 7, 2) := by decide +kernel
theorem dX10_takes_155 : decode cX10_takes 155 = .ok (.aload_n 0, 1) := by decide +kernel
theorem dX10_takes_156 : decode cX10_takes 156 = .ok (.getfield 36, 3) := by decide +kernel
theorem dX10_takes_159 : decode cX10_takes 159 = .ok (.iload_n 2, 1) := by decide +kernel
theorem dX10_takes_160 : decode cX10_takes 160 = .ok (.iload 9, 2) := by decide +kernel
theorem dX10_takes_162 : decode cX10_takes 162 = .ok (.iadd, 1) := by decide +kernel
theorem dX10_takes_163 : decode cX10_takes 163 = .ok (.iaload, 1) := by decide +kernel
theorem dX10_takes_164 : decode cX10_takes 164 = .ok (.invokestatic 9, 3) := by decide +kernel
theorem dX10_takes_167 : decode cX10_takes 167 = .ok (.aload_n 1, 1) := by decide +kernel
theorem dX10_takes_168 : decode cX10_takes 168 = .ok (.getfield 39, 3) := by decide +kernel
theorem dX10_takes_171 : decode cX10_takes 171 = .ok (.iload 9, 2) := by decide +kernel
theorem dX10_takes_173 : decode cX10_takes 173 = .ok (.iaload, 1) := by decide +kernel
theorem dX10_takes_174 : decode cX10_takes 174 = .ok (.invokestatic 9, 3) := by decide +kernel
theorem dX10_takes_177 : decode cX10_takes 177 = .ok (.ladd, 1) := by decide +kernel
theorem dX10_takes_178 : decode cX10_takes 178 = .ok (.ladd, 1) := by decide +kernel
theorem dX10_takes_179 : decode cX10_takes 179 = .ok (.lstore 7, 2) := by decide +kernel
theorem dX10_takes_181 : decode cX10_takes 181 = .ok (.aload_n 0, 1) := by decide +kernel
theorem dX10_takes_182 : decode cX10_takes 182 = .ok (.getfield 36, 3) := by decide +kernel
theorem dX10_takes_185 : decode cX10_takes 185 = .ok (.iload_n 2, 1) := by decide +kernel
theorem dX10_takes_186 : decode cX10_takes 186 = .ok (.iload 9, 2) := by decide +kernel
theorem dX10_takes_188 : decode cX10_takes 188 = .ok (.iadd, 1) := by decide +kernel
theorem dX10_takes_189 : decode cX10_takes 189 = .ok (.lload 7, 2) := by decide +kernel
theorem dX10_takes_191 : decode cX10_takes 191 = .ok (.l2i, 1) := by decide +kernel
theorem dX10_takes_192 : decode cX10_takes 192 = .ok (.iastore, 1) := by decide +kernel
theorem dX10_takes_193 : decode cX10_takes 193 = .ok (.lload 7, 2) := by decide +kernel
theorem dX10_takes_195 : decode cX10_takes 195 = .ok (.bipush 32, 2) := by decide +kernel
theorem dX10_takes_197 : decode cX10_takes 197 = .ok (.lushr, 1) := by decide +kernel
theorem dX10_takes_198 : decode cX10_takes 198 = .ok (.lstore 7, 2) := by decide +kernel
theorem dX10_takes_200 : decode cX10_takes 200 = .ok (.iinc 9 1, 3) := by decide +kernel
theorem dX10_takes_203 : decode cX10_takes 203 = .ok (.goto (-59), 3) := by decide +kernel
theorem dX10_takes_206 : decode cX10_takes 206 = .ok (.aload_n 0, 1) := by decide +kernel
theorem dX10_takes_207 : decode cX10_takes 207 = .ok (.getfield 36, 3) := by decide +kernel
theorem dX10_takes_210 : decode cX10_takes 210 = .ok (.iload_n 2, 1) := by decide +kernel
theorem dX10_takes_211 : decode cX10_takes 211 = .ok (.aload_n 1, 1) := by decide +kernel
theorem dX10_takes_212 : decode cX10_takes 212 = .ok (.getfield 13, 3) := by decide +kernel
theorem dX10_takes_215 : decode cX10_takes 215 = .ok (.iadd, 1) := by decide +kernel
theorem dX10_takes_216 : decode cX10_takes 216 = .ok (.dup2, 1) := by decide +kernel
theorem dX10_takes_217 : decode cX10_takes 217 = .ok (.iaload, 1) := by decide +kernel
theorem dX10_takes_218 : decode cX10_takes 218 = .ok (.lload 7, 2) := by decide +kernel
theorem dX10_takes_220 : decode cX10_takes 220 = .ok (.l2i, 1) := by decide +kernel
theorem dX10_takes_221 : decode cX10_takes 221 = .ok (.iadd, 1) := by decide +kernel
theorem dX10_takes_222 : decode cX10_takes 222 = .ok (.iastore, 1) := by decide +kernel
theorem dX10_takes_223 : decode cX10_takes 223 = .ok (.return_, 1) := by decide +kernel
abbrev cX10_sub : ByteArray := prog_15_method_10_code
def yX10_sub : MethodName := ⟨RX10, "sub", "(LVeilMintModel$Mod;[I[I[I)V"⟩
theorem dX10_sub_0 : decode cX10_sub 0 = .ok (.aload_n 1, 1) := by decide +kernel
theorem dX10_sub_1 : decode cX10_sub 1 = .ok (.aload_n 2, 1) := by decide +kernel
theorem dX10_sub_2 : decode cX10_sub 2 = .ok (.aload_n 3, 1) := by decide +kernel
theorem dX10_sub_3 : decode cX10_sub 3 = .ok (.aload_n 0, 1) := by decide +kernel
theorem dX10_sub_4 : decode cX10_sub 4 = .ok (.getfield 13, 3) := by decide +kernel
theorem dX10_sub_7 : decode cX10_sub 7 = .ok (.invokestatic 30, 3) := by decide +kernel
theorem dX10_sub_10 : decode cX10_sub 10 = .ok (.ifCond .eq 18, 3) := by decide +kernel
theorem dX10_sub_13 : decode cX10_sub 13 = .ok (.aload_n 3, 1) := by decide +kernel
theorem dX10_sub_14 : decode cX10_sub 14 = .ok (.aload_n 0, 1) := by decide +kernel
theorem dX10_sub_15 : decode cX10_sub 15 = .ok (.getfield 22, 3) := by decide +kernel
theorem dX10_sub_18 : decode cX10_sub 18 = .ok (.aload_n 3, 1) := by decide +kernel
theorem dX10_sub_19 : decode cX10_sub 19 = .ok (.aload_n 0, 1) := by decide +kernel
theorem dX10_sub_20 : decode cX10_sub 20 = .ok (.getfield 13, 3) := by decide +kernel
theorem dX10_sub_23 : decode cX10_sub 23 = .ok (.invokestatic 18, 3) := by decide +kernel
theorem dX10_sub_26 : decode cX10_sub 26 = .ok (.istore 4, 2) := by decide +kernel
theorem dX10_sub_28 : decode cX10_sub 28 = .ok (.return_, 1) := by decide +kernel
abbrev cX10_add : ByteArray := prog_15_method_9_code
def yX10_add : MethodName := ⟨RX10, "add", "(LVeilMintModel$Mod;[I[I[I)V"⟩
theorem dX10_add_0 : decode cX10_add 0 = .ok (.aload_n 1, 1) := by decide +kernel
theorem dX10_add_1 : decode cX10_add 1 = .ok (.aload_n 2, 1) := by decide +kernel
theorem dX10_add_2 : decode cX10_add 2 = .ok (.aload_n 3, 1) := by decide +kernel
theorem dX10_add_3 : decode cX10_add 3 = .ok (.aload_n 0, 1) := by decide +kernel
theorem dX10_add_4 : decode cX10_add 4 = .ok (.getfield 13, 3) := by decide +kernel
theorem dX10_add_7 : decode cX10_add 7 = .ok (.invokestatic 18, 3) := by decide +kernel
theorem dX10_add_10 : decode cX10_add 10 = .ok (.istore 4, 2) := by decide +kernel
theorem dX10_add_12 : decode cX10_add 12 = .ok (.iload 4, 2) := by decide +kernel
theorem dX10_add_14 : decode cX10_add 14 = .ok (.ifCond .ne 18, 3) := by decide +kernel
theorem dX10_add_17 : decode cX10_add 17 = .ok (.aload_n 3, 1) := by decide +kernel
theorem dX10_add_18 : decode cX10_add 18 = .ok (.aload_n 0, 1) := by decide +kernel
theorem dX10_add_19 : decode cX10_add 19 = .ok (.getfield 22, 3) := by decide +kernel
theorem dX10_add_22 : decode cX10_add 22 = .ok (.aload_n 0, 1) := by decide +kernel
theorem dX10_add_23 : decode cX10_add 23 = .ok (.getfield 13, 3) := by decide +kernel
theorem dX10_add_26 : decode cX10_add 26 = .ok (.invokestatic 26, 3) := by decide +kernel
theorem dX10_add_29 : decode cX10_add 29 = .ok (.ifCond .lt 18, 3) := by decide +kernel
theorem dX10_add_32 : decode cX10_add 32 = .ok (.aload_n 3, 1) := by decide +kernel
theorem dX10_add_33 : decode cX10_add 33 = .ok (.aload_n 0, 1) := by decide +kernel
theorem dX10_add_34 : decode cX10_add 34 = .ok (.getfield 22, 3) := by decide +kernel
theorem dX10_add_37 : decode cX10_add 37 = .ok (.aload_n 3, 1) := by decide +kernel
theorem dX10_add_38 : decode cX10_add 38 = .ok (.aload_n 0, 1) := by decide +kernel
theorem dX10_add_39 : decode cX10_add 39 = .ok (.getfield 13, 3) := by decide +kernel
theorem dX10_add_42 : decode cX10_add 42 = .ok (.invokestatic 30, 3) := by decide +kernel
theorem dX10_add_45 : decode cX10_add 45 = .ok (.istore 4, 2) := by decide +kernel
theorem dX10_add_47 : decode cX10_add 47 = .ok (.return_, 1) := by decide +kernel
abbrev cX10_eight : ByteArray := prog_15_method_25_code
def yX10_eight : MethodName := ⟨RX10, "eight", "([I)V"⟩
theorem dX10_eight_0 : decode cX10_eight 0 = .ok (.iconst 0, 1) := by decide +kernel
theorem dX10_eight_1 : decode cX10_eight 1 = .ok (.istore_n 2, 1) := by decide +kernel
theorem dX10_eight_2 : decode cX10_eight 2 = .ok (.iload_n 2, 1) := by decide +kernel
theorem dX10_eight_3 : decode cX10_eight 3 = .ok (.iconst 3, 1) := by decide +kernel
theorem dX10_eight_4 : decode cX10_eight 4 = .ok (.if_icmp .ge 19, 3) := by decide +kernel
theorem dX10_eight_7 : decode cX10_eight 7 = .ok (.aload_n 0, 1) := by decide +kernel
theorem dX10_eight_8 : decode cX10_eight 8 = .ok (.getfield 61, 3) := by decide +kernel
theorem dX10_eight_11 : decode cX10_eight 11 = .ok (.aload_n 1, 1) := by decide +kernel
theorem dX10_eight_12 : decode cX10_eight 12 = .ok (.aload_n 1, 1) := by decide +kernel
theorem dX10_eight_13 : decode cX10_eight 13 = .ok (.aload_n 1, 1) := by decide +kernel
theorem dX10_eight_14 : decode cX10_eight 14 = .ok (.invokestatic 155, 3) := by decide +kernel
theorem dX10_eight_17 : decode cX10_eight 17 = .ok (.iinc 2 1, 3) := by decide +kernel
theorem dX10_eight_20 : decode cX10_eight 20 = .ok (.goto (-18), 3) := by decide +kernel
theorem dX10_eight_23 : decode cX10_eight 23 = .ok (.return_, 1) := by decide +kernel
abbrev cX10_steps : ByteArray := prog_15_method_27_code
def yX10_steps : MethodName := ⟨RX10, "steps", "()Z"⟩
theorem dX10_steps_0 : decode cX10_steps 0 = .ok (.aload_n 0, 1) := by decide +kernel
theorem dX10_steps_1 : decode cX10_steps 1 = .ok (.aload_n 0, 1) := by decide +kernel
theorem dX10_steps_2 : decode cX10_steps 2 = .ok (.getfield 61, 3) := by decide +kernel
theorem dX10_steps_5 : decode cX10_steps 5 = .ok (.aload_n 0, 1) := by decide +kernel
theorem dX10_steps_6 : decode cX10_steps 6 = .ok (.getfield 192, 3) := by decide +kernel
theorem dX10_steps_9 : decode cX10_steps 9 = .ok (.getfield 149, 3) := by decide +kernel
theorem dX10_steps_12 : decode cX10_steps 12 = .ok (.aload_n 0, 1) := by decide +kernel
theorem dX10_steps_13 : decode cX10_steps 13 = .ok (.getfield 168, 3) := by decide +kernel
theorem dX10_steps_16 : decode cX10_steps 16 = .ok (.aload_n 0, 1) := by decide +kernel
theorem dX10_steps_17 : decode cX10_steps 17 = .ok (.getfield 171, 3) := by decide +kernel
theorem dX10_steps_20 : decode cX10_steps 20 = .ok (.invokevirtual 102, 3) := by decide +kernel
theorem dX10_steps_23 : decode cX10_steps 23 = .ok (.aload_n 0, 1) := by decide +kernel
theorem dX10_steps_24 : decode cX10_steps 24 = .ok (.getfield 61, 3) := by decide +kernel
theorem dX10_steps_27 : decode cX10_steps 27 = .ok (.aload_n 0, 1) := by decide +kernel
theorem dX10_steps_28 : decode cX10_steps 28 = .ok (.getfield 171, 3) := by decide +kernel
theorem dX10_steps_31 : decode cX10_steps 31 = .ok (.aload_n 0, 1) := by decide +kernel
theorem dX10_steps_32 : decode cX10_steps 32 = .ok (.getfield 180, 3) := by decide +kernel
theorem dX10_steps_35 : decode cX10_steps 35 = .ok (.aload_n 0, 1) := by decide +kernel
theorem dX10_steps_36 : decode cX10_steps 36 = .ok (.getfield 171, 3) := by decide +kernel
theorem dX10_steps_39 : decode cX10_steps 39 = .ok (.invokestatic 130, 3) := by decide +kernel
theorem dX10_steps_42 : decode cX10_steps 42 = .ok (.aload_n 0, 1) := by decide +kernel
theorem dX10_steps_43 : decode cX10_steps 43 = .ok (.aload_n 0, 1) := by decide +kernel
theorem dX10_steps_44 : decode cX10_steps 44 = .ok (.getfield 61, 3) := by decide +kernel
theorem dX10_steps_47 : decode cX10_steps 47 = .ok (.aload_n 0, 1) := by decide +kernel
theorem dX10_steps_48 : decode cX10_steps 48 = .ok (.getfield 192, 3) := by decide +kernel
theorem dX10_steps_51 : decode cX10_steps 51 = .ok (.getfield 146, 3) := by decide +kernel
theorem dX10_steps_54 : decode cX10_steps 54 = .ok (.aload_n 0, 1) := by decide +kernel
theorem dX10_steps_55 : decode cX10_steps 55 = .ok (.getfield 168, 3) := by decide +kernel
theorem dX10_steps_58 : decode cX10_steps 58 = .ok (.aload_n 0, 1) := by decide +kernel
theorem dX10_steps_59 : decode cX10_steps 59 = .ok (.getfield 177, 3) := by decide +kernel
theorem dX10_steps_62 : decode cX10_steps 62 = .ok (.invokevirtual 102, 3) := by decide +kernel
theorem dX10_steps_65 : decode cX10_steps 65 = .ok (.aload_n 0, 1) := by decide +kernel
theorem dX10_steps_66 : decode cX10_steps 66 = .ok (.getfield 61, 3) := by decide +kernel
theorem dX10_steps_69 : decode cX10_steps 69 = .ok (.aload_n 0, 1) := by decide +kernel
theorem dX10_steps_70 : decode cX10_steps 70 = .ok (.getfield 177, 3) := by decide +kernel
theorem dX10_steps_73 : decode cX10_steps 73 = .ok (.aload_n 0, 1) := by decide +kernel
theorem dX10_steps_74 : decode cX10_steps 74 = .ok (.getfield 174, 3) := by decide +kernel
theorem dX10_steps_77 : decode cX10_steps 77 = .ok (.aload_n 0, 1) := by decide +kernel
theorem dX10_steps_78 : decode cX10_steps 78 = .ok (.getfield 177, 3) := by decide +kernel
theorem dX10_steps_81 : decode cX10_steps 81 = .ok (.invokestatic 130, 3) := by decide +kernel
theorem dX10_steps_84 : decode cX10_steps 84 = .ok (.aload_n 0, 1) := by decide +kernel
theorem dX10_steps_85 : decode cX10_steps 85 = .ok (.getfield 177, 3) := by decide +kernel
theorem dX10_steps_88 : decode cX10_steps 88 = .ok (.bipush 12, 2) := by decide +kernel
theorem dX10_steps_90 : decode cX10_steps 90 = .ok (.invokestatic 122, 3) := by decide +kernel
theorem dX10_steps_93 : decode cX10_steps 93 = .ok (.ifCond .eq 23, 3) := by decide +kernel
theorem dX10_steps_96 : decode cX10_steps 96 = .ok (.aload_n 0, 1) := by decide +kernel
theorem dX10_steps_97 : decode cX10_steps 97 = .ok (.getfield 171, 3) := by decide +kernel
theorem dX10_steps_100 : decode cX10_steps 100 = .ok (.bipush 12, 2) := by decide +kernel
theorem dX10_steps_102 : decode cX10_steps 102 = .ok (.invokestatic 122, 3) := by decide +kernel
theorem dX10_steps_105 : decode cX10_steps 105 = .ok (.ifCond .ne 5, 3) := by decide +kernel
theorem dX10_steps_108 : decode cX10_steps 108 = .ok (.iconst 0, 1) := by decide +kernel
theorem dX10_steps_109 : decode cX10_steps 109 = .ok (.ireturn, 1) := by decide +kernel
theorem dX10_steps_110 : decode cX10_steps 110 = .ok (.aload_n 0, 1) := by decide +kernel
theorem dX10_steps_111 : decode cX10_steps 111 = .ok (.invokevirtual 196, 3) := by decide +kernel
theorem dX10_steps_114 : decode cX10_steps 114 = .ok (.iconst 1, 1) := by decide +kernel
theorem dX10_steps_115 : decode cX10_steps 115 = .ok (.ireturn, 1) := by decide +kernel
theorem dX10_steps_116 : decode cX10_steps 116 = .ok (.aload_n 0, 1) := by decide +kernel
theorem dX10_steps_117 : decode cX10_steps 117 = .ok (.aload_n 0, 1) := by decide +kernel
theorem dX10_steps_118 : decode cX10_steps 118 = .ok (.getfield 61, 3) := by decide +kernel
theorem dX10_steps_121 : decode cX10_steps 121 = .ok (.aload_n 0, 1) := by decide +kernel
theorem dX10_steps_122 : decode cX10_steps 122 = .ok (.getfield 177, 3) := by decide +kernel
theorem dX10_steps_125 : decode cX10_steps 125 = .ok (.aload_n 0, 1) := by decide +kernel
theorem dX10_steps_126 : decode cX10_steps 126 = .ok (.getfield 177, 3) := by decide +kernel
theorem dX10_steps_129 : decode cX10_steps 129 = .ok (.aload_n 0, 1) := by decide +kernel
theorem dX10_steps_130 : decode cX10_steps 130 = .ok (.getfield 183, 3) := by decide +kernel
theorem dX10_steps_133 : decode cX10_steps 133 = .ok (.invokevirtual 102, 3) := by decide +kernel
theorem dX10_steps_136 : decode cX10_steps 136 = .ok (.aload_n 0, 1) := by decide +kernel
theorem dX10_steps_137 : decode cX10_steps 137 = .ok (.aload_n 0, 1) := by decide +kernel
theorem dX10_steps_138 : decode cX10_steps 138 = .ok (.getfield 61, 3) := by decide +kernel
theorem dX10_steps_141 : decode cX10_steps 141 = .ok (.aload_n 0, 1) := by decide +kernel
theorem dX10_steps_142 : decode cX10_steps 142 = .ok (.getfield 183, 3) := by decide +kernel
theorem dX10_steps_145 : decode cX10_steps 145 = .ok (.aload_n 0, 1) := by decide +kernel
theorem dX10_steps_146 : decode cX10_steps 146 = .ok (.getfield 174, 3) := by decide +kernel
theorem dX10_steps_149 : decode cX10_steps 149 = .ok (.aload_n 0, 1) := by decide +kernel
theorem dX10_steps_150 : decode cX10_steps 150 = .ok (.getfield 174, 3) := by decide +kernel
theorem dX10_steps_153 : decode cX10_steps 153 = .ok (.invokevirtual 102, 3) := by decide +kernel
theorem dX10_steps_156 : decode cX10_steps 156 = .ok (.aload_n 0, 1) := by decide +kernel
theorem dX10_steps_157 : decode cX10_steps 157 = .ok (.aload_n 0, 1) := by decide +kernel
theorem dX10_steps_158 : decode cX10_steps 158 = .ok (.getfield 61, 3) := by decide +kernel
theorem dX10_steps_161 : decode cX10_steps 161 = .ok (.aload_n 0, 1) := by decide +kernel
theorem dX10_steps_162 : decode cX10_steps 162 = .ok (.getfield 183, 3) := by decide +kernel
theorem dX10_steps_165 : decode cX10_steps 165 = .ok (.aload_n 0, 1) := by decide +kernel
theorem dX10_steps_166 : decode cX10_steps 166 = .ok (.getfield 177, 3) := by decide +kernel
theorem dX10_steps_169 : decode cX10_steps 169 = .ok (.aload_n 0, 1) := by decide +kernel
theorem dX10_steps_170 : decode cX10_steps 170 = .ok (.getfield 183, 3) := by decide +kernel
theorem dX10_steps_173 : decode cX10_steps 173 = .ok (.invokevirtual 102, 3) := by decide +kernel
theorem dX10_steps_176 : decode cX10_steps 176 = .ok (.aload_n 0, 1) := by decide +kernel
theorem dX10_steps_177 : decode cX10_steps 177 = .ok (.aload_n 0, 1) := by decide +kernel
theorem dX10_steps_178 : decode cX10_steps 178 = .ok (.getfield 61, 3) := by decide +kernel
theorem dX10_steps_181 : decode cX10_steps 181 = .ok (.aload_n 0, 1) := by decide +kernel
theorem dX10_steps_182 : decode cX10_steps 182 = .ok (.getfield 171, 3) := by decide +kernel
theorem dX10_steps_185 : decode cX10_steps 185 = .ok (.aload_n 0, 1) := by decide +kernel
theorem dX10_steps_186 : decode cX10_steps 186 = .ok (.getfield 171, 3) := by decide +kernel
theorem dX10_steps_189 : decode cX10_steps 189 = .ok (.aload_n 0, 1) := by decide +kernel
theorem dX10_steps_190 : decode cX10_steps 190 = .ok (.getfield 186, 3) := by decide +kernel
theorem dX10_steps_193 : decode cX10_steps 193 = .ok (.invokevirtual 102, 3) := by decide +kernel
theorem dX10_steps_196 : decode cX10_steps 196 = .ok (.aload_n 0, 1) := by decide +kernel
theorem dX10_steps_197 : decode cX10_steps 197 = .ok (.aload_n 0, 1) := by decide +kernel
theorem dX10_steps_198 : decode cX10_steps 198 = .ok (.getfield 61, 3) := by decide +kernel
theorem dX10_steps_201 : decode cX10_steps 201 = .ok (.aload_n 0, 1) := by decide +kernel
theorem dX10_steps_202 : decode cX10_steps 202 = .ok (.getfield 186, 3) := by decide +kernel
theorem dX10_steps_205 : decode cX10_steps 205 = .ok (.aload_n 0, 1) := by decide +kernel
theorem dX10_steps_206 : decode cX10_steps 206 = .ok (.getfield 168, 3) := by decide +kernel
theorem dX10_steps_209 : decode cX10_steps 209 = .ok (.aload_n 0, 1) := by decide +kernel
theorem dX10_steps_210 : decode cX10_steps 210 = .ok (.getfield 186, 3) := by decide +kernel
theorem dX10_steps_213 : decode cX10_steps 213 = .ok (.invokevirtual 102, 3) := by decide +kernel
theorem dX10_steps_216 : decode cX10_steps 216 = .ok (.aload_n 0, 1) := by decide +kernel
theorem dX10_steps_217 : decode cX10_steps 217 = .ok (.getfield 61, 3) := by decide +kernel
theorem dX10_steps_220 : decode cX10_steps 220 = .ok (.aload_n 0, 1) := by decide +kernel
theorem dX10_steps_221 : decode cX10_steps 221 = .ok (.getfield 186, 3) := by decide +kernel
theorem dX10_steps_224 : decode cX10_steps 224 = .ok (.aload_n 0, 1) := by decide +kernel
theorem dX10_steps_225 : decode cX10_steps 225 = .ok (.getfield 183, 3) := by decide +kernel
theorem dX10_steps_228 : decode cX10_steps 228 = .ok (.aload_n 0, 1) := by decide +kernel
theorem dX10_steps_229 : decode cX10_steps 229 = .ok (.getfield 186, 3) := by decide +kernel
theorem dX10_steps_232 : decode cX10_steps 232 = .ok (.invokestatic 130, 3) := by decide +kernel
theorem dX10_steps_235 : decode cX10_steps 235 = .ok (.aload_n 0, 1) := by decide +kernel
theorem dX10_steps_236 : decode cX10_steps 236 = .ok (.getfield 61, 3) := by decide +kernel
theorem dX10_steps_239 : decode cX10_steps 239 = .ok (.aload_n 0, 1) := by decide +kernel
theorem dX10_steps_240 : decode cX10_steps 240 = .ok (.getfield 186, 3) := by decide +kernel
theorem dX10_steps_243 : decode cX10_steps 243 = .ok (.aload_n 0, 1) := by decide +kernel
theorem dX10_steps_244 : decode cX10_steps 244 = .ok (.getfield 174, 3) := by decide +kernel
theorem dX10_steps_247 : decode cX10_steps 247 = .ok (.aload_n 0, 1) := by decide +kernel
theorem dX10_steps_248 : decode cX10_steps 248 = .ok (.getfield 186, 3) := by decide +kernel
theorem dX10_steps_251 : decode cX10_steps 251 = .ok (.invokestatic 130, 3) := by decide +kernel
theorem dX10_steps_254 : decode cX10_steps 254 = .ok (.aload_n 0, 1) := by decide +kernel
theorem dX10_steps_255 : decode cX10_steps 255 = .ok (.getfield 61, 3) := by decide +kernel
theorem dX10_steps_258 : decode cX10_steps 258 = .ok (.aload_n 0, 1) := by decide +kernel
theorem dX10_steps_259 : decode cX10_steps 259 = .ok (.getfield 186, 3) := by decide +kernel
theorem dX10_steps_262 : decode cX10_steps 262 = .ok (.aload_n 0, 1) := by decide +kernel
theorem dX10_steps_263 : decode cX10_steps 263 = .ok (.getfield 174, 3) := by decide +kernel
theorem dX10_steps_266 : decode cX10_steps 266 = .ok (.aload_n 0, 1) := by decide +kernel
theorem dX10_steps_267 : decode cX10_steps 267 = .ok (.getfield 186, 3) := by decide +kernel
theorem dX10_steps_270 : decode cX10_steps 270 = .ok (.invokestatic 130, 3) := by decide +kernel
theorem dX10_steps_273 : decode cX10_steps 273 = .ok (.aload_n 0, 1) := by decide +kernel
theorem dX10_steps_274 : decode cX10_steps 274 = .ok (.getfield 61, 3) := by decide +kernel
theorem dX10_steps_277 : decode cX10_steps 277 = .ok (.aload_n 0, 1) := by decide +kernel
theorem dX10_steps_278 : decode cX10_steps 278 = .ok (.getfield 174, 3) := by decide +kernel
theorem dX10_steps_281 : decode cX10_steps 281 = .ok (.aload_n 0, 1) := by decide +kernel
theorem dX10_steps_282 : decode cX10_steps 282 = .ok (.getfield 186, 3) := by decide +kernel
theorem dX10_steps_285 : decode cX10_steps 285 = .ok (.aload_n 0, 1) := by decide +kernel
theorem dX10_steps_286 : decode cX10_steps 286 = .ok (.getfield 174, 3) := by decide +kernel
theorem dX10_steps_289 : decode cX10_steps 289 = .ok (.invokestatic 130, 3) := by decide +kernel
theorem dX10_steps_292 : decode cX10_steps 292 = .ok (.aload_n 0, 1) := by decide +kernel
theorem dX10_steps_293 : decode cX10_steps 293 = .ok (.aload_n 0, 1) := by decide +kernel
theorem dX10_steps_294 : decode cX10_steps 294 = .ok (.getfield 61, 3) := by decide +kernel
theorem dX10_steps_297 : decode cX10_steps 297 = .ok (.aload_n 0, 1) := by decide +kernel
theorem dX10_steps_298 : decode cX10_steps 298 = .ok (.getfield 171, 3) := by decide +kernel
theorem dX10_steps_301 : decode cX10_steps 301 = .ok (.aload_n 0, 1) := by decide +kernel
theorem dX10_steps_302 : decode cX10_steps 302 = .ok (.getfield 174, 3) := by decide +kernel
theorem dX10_steps_305 : decode cX10_steps 305 = .ok (.aload_n 0, 1) := by decide +kernel
theorem dX10_steps_306 : decode cX10_steps 306 = .ok (.getfield 171, 3) := by decide +kernel
theorem dX10_steps_309 : decode cX10_steps 309 = .ok (.invokevirtual 102, 3) := by decide +kernel
theorem dX10_steps_312 : decode cX10_steps 312 = .ok (.aload_n 0, 1) := by decide +kernel
theorem dX10_steps_313 : decode cX10_steps 313 = .ok (.aload_n 0, 1) := by decide +kernel
theorem dX10_steps_314 : decode cX10_steps 314 = .ok (.getfield 61, 3) := by decide +kernel
theorem dX10_steps_317 : decode cX10_steps 317 = .ok (.aload_n 0, 1) := by decide +kernel
theorem dX10_steps_318 : decode cX10_steps 318 = .ok (.getfield 183, 3) := by decide +kernel
theorem dX10_steps_321 : decode cX10_steps 321 = .ok (.aload_n 0, 1) := by decide +kernel
theorem dX10_steps_322 : decode cX10_steps 322 = .ok (.getfield 180, 3) := by decide +kernel
theorem dX10_steps_325 : decode cX10_steps 325 = .ok (.aload_n 0, 1) := by decide +kernel
theorem dX10_steps_326 : decode cX10_steps 326 = .ok (.getfield 180, 3) := by decide +kernel
theorem dX10_steps_329 : decode cX10_steps 329 = .ok (.invokevirtual 102, 3) := by decide +kernel
theorem dX10_steps_332 : decode cX10_steps 332 = .ok (.aload_n 0, 1) := by decide +kernel
theorem dX10_steps_333 : decode cX10_steps 333 = .ok (.getfield 61, 3) := by decide +kernel
theorem dX10_steps_336 : decode cX10_steps 336 = .ok (.aload_n 0, 1) := by decide +kernel
theorem dX10_steps_337 : decode cX10_steps 337 = .ok (.getfield 171, 3) := by decide +kernel
theorem dX10_steps_340 : decode cX10_steps 340 = .ok (.aload_n 0, 1) := by decide +kernel
theorem dX10_steps_341 : decode cX10_steps 341 = .ok (.getfield 180, 3) := by decide +kernel
theorem dX10_steps_344 : decode cX10_steps 344 = .ok (.aload_n 0, 1) := by decide +kernel
theorem dX10_steps_345 : decode cX10_steps 345 = .ok (.getfield 180, 3) := by decide +kernel
theorem dX10_steps_348 : decode cX10_steps 348 = .ok (.invokestatic 130, 3) := by decide +kernel
theorem dX10_steps_351 : decode cX10_steps 351 = .ok (.aload_n 0, 1) := by decide +kernel
theorem dX10_steps_352 : decode cX10_steps 352 = .ok (.aload_n 0, 1) := by decide +kernel
theorem dX10_steps_353 : decode cX10_steps 353 = .ok (.getfield 61, 3) := by decide +kernel
theorem dX10_steps_356 : decode cX10_steps 356 = .ok (.aload_n 0, 1) := by decide +kernel
theorem dX10_steps_357 : decode cX10_steps 357 = .ok (.getfield 177, 3) := by decide +kernel
theorem dX10_steps_360 : decode cX10_steps 360 = .ok (.aload_n 0, 1) := by decide +kernel
theorem dX10_steps_361 : decode cX10_steps 361 = .ok (.getfield 186, 3) := by decide +kernel
theorem dX10_steps_364 : decode cX10_steps 364 = .ok (.aload_n 0, 1) := by decide +kernel
theorem dX10_steps_365 : decode cX10_steps 365 = .ok (.getfield 174, 3) := by decide +kernel
theorem dX10_steps_368 : decode cX10_steps 368 = .ok (.invokevirtual 102, 3) := by decide +kernel
theorem dX10_steps_371 : decode cX10_steps 371 = .ok (.aload_n 0, 1) := by decide +kernel
theorem dX10_steps_372 : decode cX10_steps 372 = .ok (.aload_n 0, 1) := by decide +kernel
theorem dX10_steps_373 : decode cX10_steps 373 = .ok (.getfield 61, 3) := by decide +kernel
theorem dX10_steps_376 : decode cX10_steps 376 = .ok (.aload_n 0, 1) := by decide +kernel
theorem dX10_steps_377 : decode cX10_steps 377 = .ok (.getfield 183, 3) := by decide +kernel
theorem dX10_steps_380 : decode cX10_steps 380 = .ok (.aload_n 0, 1) := by decide +kernel
theorem dX10_steps_381 : decode cX10_steps 381 = .ok (.getfield 168, 3) := by decide +kernel
theorem dX10_steps_384 : decode cX10_steps 384 = .ok (.aload_n 0, 1) := by decide +kernel
theorem dX10_steps_385 : decode cX10_steps 385 = .ok (.getfield 168, 3) := by decide +kernel
theorem dX10_steps_388 : decode cX10_steps 388 = .ok (.invokevirtual 102, 3) := by decide +kernel
theorem dX10_steps_391 : decode cX10_steps 391 = .ok (.iconst 1, 1) := by decide +kernel
theorem dX10_steps_392 : decode cX10_steps 392 = .ok (.ireturn, 1) := by decide +kernel
abbrev cX10_inverse : ByteArray := prog_15_method_21_code
def yX10_inverse : MethodName := ⟨RX10, "inverse", "(LVeilMintModel$Mod;[I[I)Z"⟩
theorem dX10_inverse_0 : decode cX10_inverse 0 = .ok (.aload_n 1, 1) := by decide +kernel
theorem dX10_inverse_1 : decode cX10_inverse 1 = .ok (.getfield 13, 3) := by decide +kernel
theorem dX10_inverse_4 : decode cX10_inverse 4 = .ok (.istore 4, 2) := by decide +kernel
theorem dX10_inverse_6 : decode cX10_inverse 6 = .ok (.aload_n 2, 1) := by decide +kernel
theorem dX10_inverse_7 : decode cX10_inverse 7 = .ok (.aload_n 0, 1) := by decide +kernel
theorem dX10_inverse_8 : decode cX10_inverse 8 = .ok (.getfield 110, 3) := by decide +kernel
theorem dX10_inverse_11 : decode cX10_inverse 11 = .ok (.iload 4, 2) := by decide +kernel
theorem dX10_inverse_13 : decode cX10_inverse 13 = .ok (.invokestatic 91, 3) := by decide +kernel
theorem dX10_inverse_16 : decode cX10_inverse 16 = .ok (.aload_n 1, 1) := by decide +kernel
theorem dX10_inverse_17 : decode cX10_inverse 17 = .ok (.getfield 22, 3) := by decide +kernel
theorem dX10_inverse_20 : decode cX10_inverse 20 = .ok (.aload_n 0, 1) := by decide +kernel
theorem dX10_inverse_21 : decode cX10_inverse 21 = .ok (.getfield 113, 3) := by decide +kernel
theorem dX10_inverse_24 : decode cX10_inverse 24 = .ok (.iload 4, 2) := by decide +kernel
theorem dX10_inverse_26 : decode cX10_inverse 26 = .ok (.invokestatic 91, 3) := by decide +kernel
theorem dX10_inverse_29 : decode cX10_inverse 29 = .ok (.iconst 1, 1) := by decide +kernel
theorem dX10_inverse_30 : decode cX10_inverse 30 = .ok (.aload_n 0, 1) := by decide +kernel
theorem dX10_inverse_31 : decode cX10_inverse 31 = .ok (.getfield 116, 3) := by decide +kernel
theorem dX10_inverse_34 : decode cX10_inverse 34 = .ok (.iload 4, 2) := by decide +kernel
theorem dX10_inverse_36 : decode cX10_inverse 36 = .ok (.invokestatic 98, 3) := by decide +kernel
theorem dX10_inverse_39 : decode cX10_inverse 39 = .ok (.iconst 0, 1) := by decide +kernel
theorem dX10_inverse_40 : decode cX10_inverse 40 = .ok (.aload_n 0, 1) := by decide +kernel
theorem dX10_inverse_41 : decode cX10_inverse 41 = .ok (.getfield 119, 3) := by decide +kernel
theorem dX10_inverse_44 : decode cX10_inverse 44 = .ok (.iload 4, 2) := by decide +kernel
theorem dX10_inverse_46 : decode cX10_inverse 46 = .ok (.invokestatic 98, 3) := by decide +kernel
theorem dX10_inverse_49 : decode cX10_inverse 49 = .ok (.aload_n 0, 1) := by decide +kernel
theorem dX10_inverse_50 : decode cX10_inverse 50 = .ok (.getfield 110, 3) := by decide +kernel
theorem dX10_inverse_53 : decode cX10_inverse 53 = .ok (.iload 4, 2) := by decide +kernel
theorem dX10_inverse_55 : decode cX10_inverse 55 = .ok (.invokestatic 122, 3) := by decide +kernel
theorem dX10_inverse_58 : decode cX10_inverse 58 = .ok (.ifCond .ne 118, 3) := by decide +kernel
theorem dX10_inverse_61 : decode cX10_inverse 61 = .ok (.aload_n 0, 1) := by decide +kernel
theorem dX10_inverse_62 : decode cX10_inverse 62 = .ok (.getfield 110, 3) := by decide +kernel
theorem dX10_inverse_65 : decode cX10_inverse 65 = .ok (.iconst 0, 1) := by decide +kernel
theorem dX10_inverse_66 : decode cX10_inverse 66 = .ok (.iaload, 1) := by decide +kernel
theorem dX10_inverse_67 : decode cX10_inverse 67 = .ok (.iconst 1, 1) := by decide +kernel
theorem dX10_inverse_68 : decode cX10_inverse 68 = .ok (.iand, 1) := by decide +kernel
theorem dX10_inverse_69 : decode cX10_inverse 69 = .ok (.ifCond .ne 24, 3) := by decide +kernel
theorem dX10_inverse_72 : decode cX10_inverse 72 = .ok (.aload_n 0, 1) := by decide +kernel
theorem dX10_inverse_73 : decode cX10_inverse 73 = .ok (.getfield 110, 3) := by decide +kernel
theorem dX10_inverse_76 : decode cX10_inverse 76 = .ok (.iload 4, 2) := by decide +kernel
theorem dX10_inverse_78 : decode cX10_inverse 78 = .ok (.iconst 0, 1) := by decide +kernel
theorem dX10_inverse_79 : decode cX10_inverse 79 = .ok (.invokestatic 106, 3) := by decide +kernel
theorem dX10_inverse_82 : decode cX10_inverse 82 = .ok (.aload_n 1, 1) := by decide +kernel
theorem dX10_inverse_83 : decode cX10_inverse 83 = .ok (.aload_n 0, 1) := by decide +kernel
theorem dX10_inverse_84 : decode cX10_inverse 84 = .ok (.getfield 116, 3) := by decide +kernel
theorem dX10_inverse_87 : decode cX10_inverse 87 = .ok (.invokestatic 126, 3) := by decide +kernel
theorem dX10_inverse_90 : decode cX10_inverse 90 = .ok (.goto (-41), 3) := by decide +kernel
theorem dX10_inverse_93 : decode cX10_inverse 93 = .ok (.aload_n 0, 1) := by decide +kernel
theorem dX10_inverse_94 : decode cX10_inverse 94 = .ok (.getfield 110, 3) := by decide +kernel
theorem dX10_inverse_97 : decode cX10_inverse 97 = .ok (.aload_n 0, 1) := by decide +kernel
theorem dX10_inverse_98 : decode cX10_inverse 98 = .ok (.getfield 113, 3) := by decide +kernel
theorem dX10_inverse_101 : decode cX10_inverse 101 = .ok (.iload 4, 2) := by decide +kernel
theorem dX10_inverse_103 : decode cX10_inverse 103 = .ok (.invokestatic 26, 3) := by decide +kernel
theorem dX10_inverse_106 : decode cX10_inverse 106 = .ok (.ifCond .lt 41, 3) := by decide +kernel
theorem dX10_inverse_109 : decode cX10_inverse 109 = .ok (.aload_n 0, 1) := by decide +kernel
theorem dX10_inverse_110 : decode cX10_inverse 110 = .ok (.getfield 110, 3) := by decide +kernel
theorem dX10_inverse_113 : decode cX10_inverse 113 = .ok (.aload_n 0, 1) := by decide +kernel
theorem dX10_inverse_114 : decode cX10_inverse 114 = .ok (.getfield 113, 3) := by decide +kernel
theorem dX10_inverse_117 : decode cX10_inverse 117 = .ok (.aload_n 0, 1) := by decide +kernel
theorem dX10_inverse_118 : decode cX10_inverse 118 = .ok (.getfield 110, 3) := by decide +kernel
theorem dX10_inverse_121 : decode cX10_inverse 121 = .ok (.iload 4, 2) := by decide +kernel
theorem dX10_inverse_123 : decode cX10_inverse 123 = .ok (.invokestatic 30, 3) := by decide +kernel
theorem dX10_inverse_126 : decode cX10_inverse 126 = .ok (.istore 5, 2) := by decide +kernel
theorem dX10_inverse_128 : decode cX10_inverse 128 = .ok (.aload_n 1, 1) := by decide +kernel
theorem dX10_inverse_129 : decode cX10_inverse 129 = .ok (.aload_n 0, 1) := by decide +kernel
theorem dX10_inverse_130 : decode cX10_inverse 130 = .ok (.getfield 116, 3) := by decide +kernel
theorem dX10_inverse_133 : decode cX10_inverse 133 = .ok (.aload_n 0, 1) := by decide +kernel
theorem dX10_inverse_134 : decode cX10_inverse 134 = .ok (.getfield 119, 3) := by decide +kernel
theorem dX10_inverse_137 : decode cX10_inverse 137 = .ok (.aload_n 0, 1) := by decide +kernel
theorem dX10_inverse_138 : decode cX10_inverse 138 = .ok (.getfield 116, 3) := by decide +kernel
theorem dX10_inverse_141 : decode cX10_inverse 141 = .ok (.invokestatic 130, 3) := by decide +kernel
theorem dX10_inverse_144 : decode cX10_inverse 144 = .ok (.goto (-95), 3) := by decide +kernel
theorem dX10_inverse_147 : decode cX10_inverse 147 = .ok (.aload_n 0, 1) := by decide +kernel
theorem dX10_inverse_148 : decode cX10_inverse 148 = .ok (.getfield 110, 3) := by decide +kernel
theorem dX10_inverse_151 : decode cX10_inverse 151 = .ok (.aload_n 0, 1) := by decide +kernel
theorem dX10_inverse_152 : decode cX10_inverse 152 = .ok (.getfield 113, 3) := by decide +kernel
theorem dX10_inverse_155 : decode cX10_inverse 155 = .ok (.iload 4, 2) := by decide +kernel
theorem dX10_inverse_157 : decode cX10_inverse 157 = .ok (.invokestatic 133, 3) := by decide +kernel
theorem dX10_inverse_160 : decode cX10_inverse 160 = .ok (.aload_n 0, 1) := by decide +kernel
theorem dX10_inverse_161 : decode cX10_inverse 161 = .ok (.getfield 116, 3) := by decide +kernel
theorem dX10_inverse_164 : decode cX10_inverse 164 = .ok (.aload_n 0, 1) := by decide +kernel
theorem dX10_inverse_165 : decode cX10_inverse 165 = .ok (.getfield 119, 3) := by decide +kernel
theorem dX10_inverse_168 : decode cX10_inverse 168 = .ok (.iload 4, 2) := by decide +kernel
theorem dX10_inverse_170 : decode cX10_inverse 170 = .ok (.invokestatic 133, 3) := by decide +kernel
theorem dX10_inverse_173 : decode cX10_inverse 173 = .ok (.goto (-124), 3) := by decide +kernel
theorem dX10_inverse_176 : decode cX10_inverse 176 = .ok (.aload_n 0, 1) := by decide +kernel
theorem dX10_inverse_177 : decode cX10_inverse 177 = .ok (.getfield 113, 3) := by decide +kernel
theorem dX10_inverse_180 : decode cX10_inverse 180 = .ok (.iconst 0, 1) := by decide +kernel
theorem dX10_inverse_181 : decode cX10_inverse 181 = .ok (.iaload, 1) := by decide +kernel
theorem dX10_inverse_182 : decode cX10_inverse 182 = .ok (.iconst 1, 1) := by decide +kernel
theorem dX10_inverse_183 : decode cX10_inverse 183 = .ok (.if_icmp .ne 7, 3) := by decide +kernel
theorem dX10_inverse_186 : decode cX10_inverse 186 = .ok (.iconst 1, 1) := by decide +kernel
theorem dX10_inverse_187 : decode cX10_inverse 187 = .ok (.goto 4, 3) := by decide +kernel
theorem dX10_inverse_190 : decode cX10_inverse 190 = .ok (.iconst 0, 1) := by decide +kernel
theorem dX10_inverse_191 : decode cX10_inverse 191 = .ok (.istore 5, 2) := by decide +kernel
theorem dX10_inverse_193 : decode cX10_inverse 193 = .ok (.iconst 1, 1) := by decide +kernel
theorem dX10_inverse_194 : decode cX10_inverse 194 = .ok (.istore 6, 2) := by decide +kernel
theorem dX10_inverse_196 : decode cX10_inverse 196 = .ok (.iload 6, 2) := by decide +kernel
theorem dX10_inverse_198 : decode cX10_inverse 198 = .ok (.iload 4, 2) := by decide +kernel
theorem dX10_inverse_200 : decode cX10_inverse 200 = .ok (.if_icmp .ge 31, 3) := by decide +kernel
theorem dX10_inverse_203 : decode cX10_inverse 203 = .ok (.iload 5, 2) := by decide +kernel
theorem dX10_inverse_205 : decode cX10_inverse 205 = .ok (.ifCond .eq 17, 3) := by decide +kernel
theorem dX10_inverse_208 : decode cX10_inverse 208 = .ok (.aload_n 0, 1) := by decide +kernel
theorem dX10_inverse_209 : decode cX10_inverse 209 = .ok (.getfield 113, 3) := by decide +kernel
theorem dX10_inverse_212 : decode cX10_inverse 212 = .ok (.iload 6, 2) := by decide +kernel
theorem dX10_inverse_214 : decode cX10_inverse 214 = .ok (.iaload, 1) := by decide +kernel
theorem dX10_inverse_215 : decode cX10_inverse 215 = .ok (.ifCond .ne 7, 3) := by decide +kernel
theorem dX10_inverse_218 : decode cX10_inverse 218 = .ok (.iconst 1, 1) := by decide +kernel
theorem dX10_inverse_219 : decode cX10_inverse 219 = .ok (.goto 4, 3) := by decide +kernel
theorem dX10_inverse_222 : decode cX10_inverse 222 = .ok (.iconst 0, 1) := by decide +kernel
theorem dX10_inverse_223 : decode cX10_inverse 223 = .ok (.istore 5, 2) := by decide +kernel
theorem dX10_inverse_225 : decode cX10_inverse 225 = .ok (.iinc 6 1, 3) := by decide +kernel
theorem dX10_inverse_228 : decode cX10_inverse 228 = .ok (.goto (-32), 3) := by decide +kernel
theorem dX10_inverse_231 : decode cX10_inverse 231 = .ok (.aload_n 0, 1) := by decide +kernel
theorem dX10_inverse_232 : decode cX10_inverse 232 = .ok (.getfield 119, 3) := by decide +kernel
theorem dX10_inverse_235 : decode cX10_inverse 235 = .ok (.aload_n 3, 1) := by decide +kernel
theorem dX10_inverse_236 : decode cX10_inverse 236 = .ok (.iload 4, 2) := by decide +kernel
theorem dX10_inverse_238 : decode cX10_inverse 238 = .ok (.invokestatic 91, 3) := by decide +kernel
theorem dX10_inverse_241 : decode cX10_inverse 241 = .ok (.iload 5, 2) := by decide +kernel
theorem dX10_inverse_243 : decode cX10_inverse 243 = .ok (.ireturn, 1) := by decide +kernel
abbrev cX10_halves : ByteArray := prog_15_method_19_code
def yX10_halves : MethodName := ⟨RX10, "halves", "(LVeilMintModel$Mod;[I)V"⟩
theorem dX10_halves_0 : decode cX10_halves 0 = .ok (.iconst 0, 1) := by decide +kernel
theorem dX10_halves_1 : decode cX10_halves 1 = .ok (.istore_n 2, 1) := by decide +kernel
theorem dX10_halves_2 : decode cX10_halves 2 = .ok (.aload_n 1, 1) := by decide +kernel
theorem dX10_halves_3 : decode cX10_halves 3 = .ok (.iconst 0, 1) := by decide +kernel
theorem dX10_halves_4 : decode cX10_halves 4 = .ok (.iaload, 1) := by decide +kernel
theorem dX10_halves_5 : decode cX10_halves 5 = .ok (.iconst 1, 1) := by decide +kernel
theorem dX10_halves_6 : decode cX10_halves 6 = .ok (.iand, 1) := by decide +kernel
theorem dX10_halves_7 : decode cX10_halves 7 = .ok (.iconst 1, 1) := by decide +kernel
theorem dX10_halves_8 : decode cX10_halves 8 = .ok (.if_icmp .ne 17, 3) := by decide +kernel
theorem dX10_halves_11 : decode cX10_halves 11 = .ok (.aload_n 1, 1) := by decide +kernel
theorem dX10_halves_12 : decode cX10_halves 12 = .ok (.aload_n 0, 1) := by decide +kernel
theorem dX10_halves_13 : decode cX10_halves 13 = .ok (.getfield 22, 3) := by decide +kernel
theorem dX10_halves_16 : decode cX10_halves 16 = .ok (.aload_n 1, 1) := by decide +kernel
theorem dX10_halves_17 : decode cX10_halves 17 = .ok (.aload_n 0, 1) := by decide +kernel
theorem dX10_halves_18 : decode cX10_halves 18 = .ok (.getfield 13, 3) := by decide +kernel
theorem dX10_halves_21 : decode cX10_halves 21 = .ok (.invokestatic 18, 3) := by decide +kernel
theorem dX10_halves_24 : decode cX10_halves 24 = .ok (.istore_n 2, 1) := by decide +kernel
theorem dX10_halves_25 : decode cX10_halves 25 = .ok (.aload_n 1, 1) := by decide +kernel
theorem dX10_halves_26 : decode cX10_halves 26 = .ok (.aload_n 0, 1) := by decide +kernel
theorem dX10_halves_27 : decode cX10_halves 27 = .ok (.getfield 13, 3) := by decide +kernel
theorem dX10_halves_30 : decode cX10_halves 30 = .ok (.iload_n 2, 1) := by decide +kernel
theorem dX10_halves_31 : decode cX10_halves 31 = .ok (.invokestatic 106, 3) := by decide +kernel
theorem dX10_halves_34 : decode cX10_halves 34 = .ok (.return_, 1) := by decide +kernel
abbrev cX10_swap : ByteArray := prog_15_method_20_code
def yX10_swap : MethodName := ⟨RX10, "swap", "([I[II)V"⟩
theorem dX10_swap_0 : decode cX10_swap 0 = .ok (.iconst 0, 1) := by decide +kernel
theorem dX10_swap_1 : decode cX10_swap 1 = .ok (.istore_n 3, 1) := by decide +kernel
theorem dX10_swap_2 : decode cX10_swap 2 = .ok (.iload_n 3, 1) := by decide +kernel
theorem dX10_swap_3 : decode cX10_swap 3 = .ok (.iload_n 2, 1) := by decide +kernel
theorem dX10_swap_4 : decode cX10_swap 4 = .ok (.if_icmp .ge 25, 3) := by decide +kernel
theorem dX10_swap_7 : decode cX10_swap 7 = .ok (.aload_n 0, 1) := by decide +kernel
theorem dX10_swap_8 : decode cX10_swap 8 = .ok (.iload_n 3, 1) := by decide +kernel
theorem dX10_swap_9 : decode cX10_swap 9 = .ok (.iaload, 1) := by decide +kernel
theorem dX10_swap_10 : decode cX10_swap 10 = .ok (.istore 4, 2) := by decide +kernel
theorem dX10_swap_12 : decode cX10_swap 12 = .ok (.aload_n 0, 1) := by decide +kernel
theorem dX10_swap_13 : decode cX10_swap 13 = .ok (.iload_n 3, 1) := by decide +kernel
theorem dX10_swap_14 : decode cX10_swap 14 = .ok (.aload_n 1, 1) := by decide +kernel
theorem dX10_swap_15 : decode cX10_swap 15 = .ok (.iload_n 3, 1) := by decide +kernel
theorem dX10_swap_16 : decode cX10_swap 16 = .ok (.iaload, 1) := by decide +kernel
theorem dX10_swap_17 : decode cX10_swap 17 = .ok (.iastore, 1) := by decide +kernel
theorem dX10_swap_18 : decode cX10_swap 18 = .ok (.aload_n 1, 1) := by decide +kernel
theorem dX10_swap_19 : decode cX10_swap 19 = .ok (.iload_n 3, 1) := by decide +kernel
theorem dX10_swap_20 : decode cX10_swap 20 = .ok (.iload 4, 2) := by decide +kernel
theorem dX10_swap_22 : decode cX10_swap 22 = .ok (.iastore, 1) := by decide +kernel
theorem dX10_swap_23 : decode cX10_swap 23 = .ok (.iinc 3 1, 3) := by decide +kernel
theorem dX10_swap_26 : decode cX10_swap 26 = .ok (.goto (-24), 3) := by decide +kernel
theorem dX10_swap_29 : decode cX10_swap 29 = .ok (.return_, 1) := by decide +kernel
abbrev cX10_comes : ByteArray := prog_15_method_78_code
def yX10_comes : MethodName := ⟨RX10, "comes", "(I)I"⟩
theorem dX10_comes_0 : decode cX10_comes 0 = .ok (.aload_n 0, 1) := by decide +kernel
theorem dX10_comes_1 : decode cX10_comes 1 = .ok (.getfield 492, 3) := by decide +kernel
theorem dX10_comes_4 : decode cX10_comes 4 = .ok (.aload_n 0, 1) := by decide +kernel
theorem dX10_comes_5 : decode cX10_comes 5 = .ok (.getfield 626, 3) := by decide +kernel
theorem dX10_comes_8 : decode cX10_comes 8 = .ok (.iload_n 1, 1) := by decide +kernel
theorem dX10_comes_9 : decode cX10_comes 9 = .ok (.iastore, 1) := by decide +kernel
theorem dX10_comes_10 : decode cX10_comes 10 = .ok (.aload_n 0, 1) := by decide +kernel
theorem dX10_comes_11 : decode cX10_comes 11 = .ok (.getfield 495, 3) := by decide +kernel
theorem dX10_comes_14 : decode cX10_comes 14 = .ok (.aload_n 0, 1) := by decide +kernel
theorem dX10_comes_15 : decode cX10_comes 15 = .ok (.getfield 626, 3) := by decide +kernel
theorem dX10_comes_18 : decode cX10_comes 18 = .ok (.iconst 1, 1) := by decide +kernel
theorem dX10_comes_19 : decode cX10_comes 19 = .ok (.bastore, 1) := by decide +kernel
theorem dX10_comes_20 : decode cX10_comes 20 = .ok (.aload_n 0, 1) := by decide +kernel
theorem dX10_comes_21 : decode cX10_comes 21 = .ok (.aload_n 0, 1) := by decide +kernel
theorem dX10_comes_22 : decode cX10_comes 22 = .ok (.getfield 626, 3) := by decide +kernel
theorem dX10_comes_25 : decode cX10_comes 25 = .ok (.invokevirtual 632, 3) := by decide +kernel
theorem dX10_comes_28 : decode cX10_comes 28 = .ok (.aload_n 0, 1) := by decide +kernel
theorem dX10_comes_29 : decode cX10_comes 29 = .ok (.dup, 1) := by decide +kernel
theorem dX10_comes_30 : decode cX10_comes 30 = .ok (.getfield 626, 3) := by decide +kernel
theorem dX10_comes_33 : decode cX10_comes 33 = .ok (.iconst 1, 1) := by decide +kernel
theorem dX10_comes_34 : decode cX10_comes 34 = .ok (.iadd, 1) := by decide +kernel
theorem dX10_comes_35 : decode cX10_comes 35 = .ok (.putfield 626, 3) := by decide +kernel
theorem dX10_comes_38 : decode cX10_comes 38 = .ok (.aload_n 0, 1) := by decide +kernel
theorem dX10_comes_39 : decode cX10_comes 39 = .ok (.getfield 626, 3) := by decide +kernel
theorem dX10_comes_42 : decode cX10_comes 42 = .ok (.iconst 1, 1) := by decide +kernel
theorem dX10_comes_43 : decode cX10_comes 43 = .ok (.isub, 1) := by decide +kernel
theorem dX10_comes_44 : decode cX10_comes 44 = .ok (.ireturn, 1) := by decide +kernel
abbrev cX10_keyId : ByteArray := prog_15_method_75_code
def yX10_keyId : MethodName := ⟨RX10, "keyId", "(I)V"⟩
theorem dX10_keyId_0 : decode cX10_keyId 0 = .ok (.aload_n 0, 1) := by decide +kernel
theorem dX10_keyId_1 : decode cX10_keyId 1 = .ok (.iconst 0, 1) := by decide +kernel
theorem dX10_keyId_2 : decode cX10_keyId 2 = .ok (.putfield 243, 3) := by decide +kernel
theorem dX10_keyId_5 : decode cX10_keyId 5 = .ok (.aload_n 0, 1) := by decide +kernel
theorem dX10_keyId_6 : decode cX10_keyId 6 = .ok (.getfield 492, 3) := by decide +kernel
theorem dX10_keyId_9 : decode cX10_keyId 9 = .ok (.iload_n 1, 1) := by decide +kernel
theorem dX10_keyId_10 : decode cX10_keyId 10 = .ok (.iaload, 1) := by decide +kernel
theorem dX10_keyId_11 : decode cX10_keyId 11 = .ok (.iconst 1, 1) := by decide +kernel
theorem dX10_keyId_12 : decode cX10_keyId 12 = .ok (.if_icmp .ne 31, 3) := by decide +kernel
theorem dX10_keyId_15 : decode cX10_keyId 15 = .ok (.aload_n 0, 1) := by decide +kernel
theorem dX10_keyId_16 : decode cX10_keyId 16 = .ok (.getfield 458, 3) := by decide +kernel
theorem dX10_keyId_19 : decode cX10_keyId 19 = .ok (.iload_n 1, 1) := by decide +kernel
theorem dX10_keyId_20 : decode cX10_keyId 20 = .ok (.aaload, 1) := by decide +kernel
theorem dX10_keyId_21 : decode cX10_keyId 21 = .ok (.aload_n 0, 1) := by decide +kernel
theorem dX10_keyId_22 : decode cX10_keyId 22 = .ok (.getfield 402, 3) := by decide +kernel
theorem dX10_keyId_25 : decode cX10_keyId 25 = .ok (.iconst 0, 1) := by decide +kernel
theorem dX10_keyId_26 : decode cX10_keyId 26 = .ok (.invokestatic 405, 3) := by decide +kernel
theorem dX10_keyId_29 : decode cX10_keyId 29 = .ok (.aload_n 0, 1) := by decide +kernel
theorem dX10_keyId_30 : decode cX10_keyId 30 = .ok (.aload_n 0, 1) := by decide +kernel
theorem dX10_keyId_31 : decode cX10_keyId 31 = .ok (.getfield 402, 3) := by decide +kernel
theorem dX10_keyId_34 : decode cX10_keyId 34 = .ok (.iconst 0, 1) := by decide +kernel
theorem dX10_keyId_35 : decode cX10_keyId 35 = .ok (.bipush 49, 2) := by decide +kernel
theorem dX10_keyId_37 : decode cX10_keyId 37 = .ok (.invokevirtual 325, 3) := by decide +kernel
theorem dX10_keyId_40 : decode cX10_keyId 40 = .ok (.goto 74, 3) := by decide +kernel
theorem dX10_keyId_43 : decode cX10_keyId 43 = .ok (.aload_n 0, 1) := by decide +kernel
theorem dX10_keyId_44 : decode cX10_keyId 44 = .ok (.getfield 503, 3) := by decide +kernel
theorem dX10_keyId_47 : decode cX10_keyId 47 = .ok (.iload_n 1, 1) := by decide +kernel
theorem dX10_keyId_48 : decode cX10_keyId 48 = .ok (.aaload, 1) := by decide +kernel
theorem dX10_keyId_49 : decode cX10_keyId 49 = .ok (.getfield 22, 3) := by decide +kernel
theorem dX10_keyId_52 : decode cX10_keyId 52 = .ok (.aload_n 0, 1) := by decide +kernel
theorem dX10_keyId_53 : decode cX10_keyId 53 = .ok (.getfield 540, 3) := by decide +kernel
theorem dX10_keyId_56 : decode cX10_keyId 56 = .ok (.iconst 0, 1) := by decide +kernel
theorem dX10_keyId_57 : decode cX10_keyId 57 = .ok (.aload_n 0, 1) := by decide +kernel
theorem dX10_keyId_58 : decode cX10_keyId 58 = .ok (.getfield 510, 3) := by decide +kernel
theorem dX10_keyId_61 : decode cX10_keyId 61 = .ok (.iload_n 1, 1) := by decide +kernel
theorem dX10_keyId_62 : decode cX10_keyId 62 = .ok (.iaload, 1) := by decide +kernel
theorem dX10_keyId_63 : decode cX10_keyId 63 = .ok (.invokestatic 232, 3) := by decide +kernel
theorem dX10_keyId_66 : decode cX10_keyId 66 = .ok (.aload_n 0, 1) := by decide +kernel
theorem dX10_keyId_67 : decode cX10_keyId 67 = .ok (.aload_n 0, 1) := by decide +kernel
theorem dX10_keyId_68 : decode cX10_keyId 68 = .ok (.getfield 540, 3) := by decide +kernel
theorem dX10_keyId_71 : decode cX10_keyId 71 = .ok (.iconst 0, 1) := by decide +kernel
theorem dX10_keyId_72 : decode cX10_keyId 72 = .ok (.aload_n 0, 1) := by decide +kernel
theorem dX10_keyId_73 : decode cX10_keyId 73 = .ok (.getfield 510, 3) := by decide +kernel
theorem dX10_keyId_76 : decode cX10_keyId 76 = .ok (.iload_n 1, 1) := by decide +kernel
theorem dX10_keyId_77 : decode cX10_keyId 77 = .ok (.iaload, 1) := by decide +kernel
theorem dX10_keyId_78 : decode cX10_keyId 78 = .ok (.invokevirtual 325, 3) := by decide +kernel
theorem dX10_keyId_81 : decode cX10_keyId 81 = .ok (.aload_n 0, 1) := by decide +kernel
theorem dX10_keyId_82 : decode cX10_keyId 82 = .ok (.aload_n 0, 1) := by decide +kernel
theorem dX10_keyId_83 : decode cX10_keyId 83 = .ok (.getfield 507, 3) := by decide +kernel
theorem dX10_keyId_86 : decode cX10_keyId 86 = .ok (.iload_n 1, 1) := by decide +kernel
theorem dX10_keyId_87 : decode cX10_keyId 87 = .ok (.iaload, 1) := by decide +kernel
theorem dX10_keyId_88 : decode cX10_keyId 88 = .ok (.bipush 16, 2) := by decide +kernel
theorem dX10_keyId_90 : decode cX10_keyId 90 = .ok (.ishr, 1) := by decide +kernel
theorem dX10_keyId_91 : decode cX10_keyId 91 = .ok (.invokevirtual 246, 3) := by decide +kernel
theorem dX10_keyId_94 : decode cX10_keyId 94 = .ok (.aload_n 0, 1) := by decide +kernel
theorem dX10_keyId_95 : decode cX10_keyId 95 = .ok (.aload_n 0, 1) := by decide +kernel
theorem dX10_keyId_96 : decode cX10_keyId 96 = .ok (.getfield 507, 3) := by decide +kernel
theorem dX10_keyId_99 : decode cX10_keyId 99 = .ok (.iload_n 1, 1) := by decide +kernel
theorem dX10_keyId_100 : decode cX10_keyId 100 = .ok (.iaload, 1) := by decide +kernel
theorem dX10_keyId_101 : decode cX10_keyId 101 = .ok (.invokevirtual 334, 3) := by decide +kernel
theorem dX10_keyId_104 : decode cX10_keyId 104 = .ok (.aload_n 0, 1) := by decide +kernel
theorem dX10_keyId_105 : decode cX10_keyId 105 = .ok (.aload_n 0, 1) := by decide +kernel
theorem dX10_keyId_106 : decode cX10_keyId 106 = .ok (.getfield 513, 3) := by decide +kernel
theorem dX10_keyId_109 : decode cX10_keyId 109 = .ok (.iload_n 1, 1) := by decide +kernel
theorem dX10_keyId_110 : decode cX10_keyId 110 = .ok (.iaload, 1) := by decide +kernel
theorem dX10_keyId_111 : decode cX10_keyId 111 = .ok (.invokevirtual 246, 3) := by decide +kernel
theorem dX10_keyId_114 : decode cX10_keyId 114 = .ok (.aload_n 0, 1) := by decide +kernel
theorem dX10_keyId_115 : decode cX10_keyId 115 = .ok (.invokevirtual 609, 3) := by decide +kernel
theorem dX10_keyId_118 : decode cX10_keyId 118 = .ok (.iconst 0, 1) := by decide +kernel
theorem dX10_keyId_119 : decode cX10_keyId 119 = .ok (.istore_n 2, 1) := by decide +kernel
theorem dX10_keyId_120 : decode cX10_keyId 120 = .ok (.iload_n 2, 1) := by decide +kernel
theorem dX10_keyId_121 : decode cX10_keyId 121 = .ok (.bipush 32, 2) := by decide +kernel
theorem dX10_keyId_123 : decode cX10_keyId 123 = .ok (.if_icmp .ge 26, 3) := by decide +kernel
theorem dX10_keyId_126 : decode cX10_keyId 126 = .ok (.aload_n 0, 1) := by decide +kernel
theorem dX10_keyId_127 : decode cX10_keyId 127 = .ok (.getfield 499, 3) := by decide +kernel
theorem dX10_keyId_130 : decode cX10_keyId 130 = .ok (.bipush 32, 2) := by decide +kernel
theorem dX10_keyId_132 : decode cX10_keyId 132 = .ok (.iload_n 1, 1) := by decide +kernel
theorem dX10_keyId_133 : decode cX10_keyId 133 = .ok (.imul, 1) := by decide +kernel
theorem dX10_keyId_134 : decode cX10_keyId 134 = .ok (.iload_n 2, 1) := by decide +kernel
theorem dX10_keyId_135 : decode cX10_keyId 135 = .ok (.iadd, 1) := by decide +kernel
theorem dX10_keyId_136 : decode cX10_keyId 136 = .ok (.aload_n 0, 1) := by decide +kernel
