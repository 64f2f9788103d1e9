/-! VeilMint$Oblivious -/
set_option maxRecDepth 100000
def RX14 : String := "VeilMint$Oblivious"
def TX14 : u_T := fun k => match k with
  | 0 => ("VeilMint$Key", "id", "[B", true)
  | 1 => ("VeilMint$Key", "type", "I", true)
  | 2 => ("VeilMint$Key", "live", "Z", false)
  | 3 => ("VeilMint$Oblivious", "curve", "LVeilMint$Curve;", true)
  | 4 => ("VeilMint$Oblivious", "refusal", "LVeilMint$Refusal;", true)
  | 5 => ("VeilMint$Oblivious", "secret", "[I", true)
  | 6 => ("VeilMint$Oblivious", "scalar", "[I", true)
  | 7 => ("VeilMint$Oblivious", "sum", "[I", true)
  | 8 => ("VeilMint$Oblivious", "other", "[I", true)
  | 9 => ("VeilMint$Oblivious", "element", "[B", true)
  | 10 => ("VeilMint$Oblivious", "seed", "[B", true)
  | 11 => ("VeilMint$Oblivious", "five", "[B", true)
  | 12 => ("VeilMint$Oblivious", "told", "[B", true)
  | 13 => ("VeilMint$Oblivious", "point", "LVeilMint$Point;", true)
  | 14 => ("VeilMint$Oblivious", "composite", "LVeilMint$Point;", true)
  | 15 => ("VeilMint$Oblivious", "evaluated", "LVeilMint$Point;", true)
  | 16 => ("VeilMint$Oblivious", "work", "LVeilMint$Point;", true)
  | _ => ("VeilMint$Oblivious", "more", "LVeilMint$Point;", true)
def tyX14 : Nat → FieldType := fun k => match k with
  | 0 => .array .byte
  | 1 => .int
  | 2 => .boolean
  | 3 => .object "VeilMint$Curve"
  | 4 => .object "VeilMint$Refusal"
  | 5 => .array .int
  | 6 => .array .int
  | 7 => .array .int
  | 8 => .array .int
  | 9 => .array .byte
  | 10 => .array .byte
  | 11 => .array .byte
  | 12 => .array .byte
  | 13 => .object "VeilMint$Point"
  | 14 => .object "VeilMint$Point"
  | 15 => .object "VeilMint$Point"
  | 16 => .object "VeilMint$Point"
  | _ => .object "VeilMint$Point"
abbrev wsX140 : List Cond := u_ws RX14 TX14 18
set_option maxRecDepth 100000 in
theorem nmX14 : ∀ a, a < 18 → ∀ b, b < 18 → a ≠ b → (TX14 a).2.1 ≠ (TX14 b).2.1 := by decide +kernel
set_option maxRecDepth 100000 in
theorem tyX14_ok : ∀ k, k < 18 → parseFieldDescriptor (TX14 k).2.2.1 = some (tyX14 k) := by decide +kernel
abbrev cX14_init : ByteArray := prog_10_method_1_code
def yX14_init : MethodName := ⟨RX14, "<init>", "(LVeilMint$Curve;LVeilMint$Refusal;[B)V"⟩
theorem dX14_init_0 : decode cX14_init 0 = .ok (.aload_n 0, 1) := by decide +kernel
theorem dX14_init_1 : decode cX14_init 1 = .ok (.iconst 1, 1) := by decide +kernel
theorem dX14_init_2 : decode cX14_init 2 = .ok (.invokespecial 3, 3) := by decide +kernel
theorem dX14_init_5 : decode cX14_init 5 = .ok (.aload_n 0, 1) := by decide +kernel
theorem dX14_init_6 : decode cX14_init 6 = .ok (.bipush 12, 2) := by decide +kernel
theorem dX14_init_8 : decode cX14_init 8 = .ok (.newarray .int, 2) := by decide +kernel
theorem dX14_init_10 : decode cX14_init 10 = .ok (.putfield 9, 3) := by decide +kernel
theorem dX14_init_13 : decode cX14_init 13 = .ok (.aload_n 0, 1) := by decide +kernel
theorem dX14_init_14 : decode cX14_init 14 = .ok (.bipush 12, 2) := by decide +kernel
theorem dX14_init_16 : decode cX14_init 16 = .ok (.newarray .int, 2) := by decide +kernel
theorem dX14_init_18 : decode cX14_init 18 = .ok (.putfield 15, 3) := by decide +kernel
theorem dX14_init_21 : decode cX14_init 21 = .ok (.aload_n 0, 1) := by decide +kernel
theorem dX14_init_22 : decode cX14_init 22 = .ok (.bipush 12, 2) := by decide +kernel
theorem dX14_init_24 : decode cX14_init 24 = .ok (.newarray .int, 2) := by decide +kernel
theorem dX14_init_26 : decode cX14_init 26 = .ok (.putfield 18, 3) := by decide +kernel
theorem dX14_init_29 : decode cX14_init 29 = .ok (.aload_n 0, 1) := by decide +kernel
theorem dX14_init_30 : decode cX14_init 30 = .ok (.bipush 12, 2) := by decide +kernel
theorem dX14_init_32 : decode cX14_init 32 = .ok (.newarray .int, 2) := by decide +kernel
theorem dX14_init_34 : decode cX14_init 34 = .ok (.putfield 21, 3) := by decide +kernel
theorem dX14_init_37 : decode cX14_init 37 = .ok (.aload_n 0, 1) := by decide +kernel
theorem dX14_init_38 : decode cX14_init 38 = .ok (.bipush 49, 2) := by decide +kernel
theorem dX14_init_40 : decode cX14_init 40 = .ok (.newarray .byte, 2) := by decide +kernel
theorem dX14_init_42 : decode cX14_init 42 = .ok (.putfield 24, 3) := by decide +kernel
theorem dX14_init_45 : decode cX14_init 45 = .ok (.aload_n 0, 1) := by decide +kernel
theorem dX14_init_46 : decode cX14_init 46 = .ok (.bipush 48, 2) := by decide +kernel
theorem dX14_init_48 : decode cX14_init 48 = .ok (.newarray .byte, 2) := by decide +kernel
theorem dX14_init_50 : decode cX14_init 50 = .ok (.putfield 28, 3) := by decide +kernel
theorem dX14_init_53 : decode cX14_init 53 = .ok (.aload_n 0, 1) := by decide +kernel
theorem dX14_init_54 : decode cX14_init 54 = .ok (.sipush 245, 3) := by decide +kernel
theorem dX14_init_57 : decode cX14_init 57 = .ok (.newarray .byte, 2) := by decide +kernel
theorem dX14_init_59 : decode cX14_init 59 = .ok (.putfield 31, 3) := by decide +kernel
theorem dX14_init_62 : decode cX14_init 62 = .ok (.aload_n 0, 1) := by decide +kernel
theorem dX14_init_63 : decode cX14_init 63 = .ok (.bipush 49, 2) := by decide +kernel
theorem dX14_init_65 : decode cX14_init 65 = .ok (.newarray .byte, 2) := by decide +kernel
theorem dX14_init_67 : decode cX14_init 67 = .ok (.putfield 34, 3) := by decide +kernel
theorem dX14_init_70 : decode cX14_init 70 = .ok (.aload_n 0, 1) := by decide +kernel
theorem dX14_init_71 : decode cX14_init 71 = .ok (.new 37, 3) := by decide +kernel
theorem dX14_init_74 : decode cX14_init 74 = .ok (.dup, 1) := by decide +kernel
theorem dX14_init_75 : decode cX14_init 75 = .ok (.invokespecial 39, 3) := by decide +kernel
theorem dX14_init_78 : decode cX14_init 78 = .ok (.putfield 42, 3) := by decide +kernel
theorem dX14_init_81 : decode cX14_init 81 = .ok (.aload_n 0, 1) := by decide +kernel
theorem dX14_init_82 : decode cX14_init 82 = .ok (.new 37, 3) := by decide +kernel
theorem dX14_init_85 : decode cX14_init 85 = .ok (.dup, 1) := by decide +kernel
theorem dX14_init_86 : decode cX14_init 86 = .ok (.invokespecial 39, 3) := by decide +kernel
theorem dX14_init_89 : decode cX14_init 89 = .ok (.putfield 46, 3) := by decide +kernel
theorem dX14_init_92 : decode cX14_init 92 = .ok (.aload_n 0, 1) := by decide +kernel
theorem dX14_init_93 : decode cX14_init 93 = .ok (.new 37, 3) := by decide +kernel
theorem dX14_init_96 : decode cX14_init 96 = .ok (.dup, 1) := by decide +kernel
theorem dX14_init_97 : decode cX14_init 97 = .ok (.invokespecial 39, 3) := by decide +kernel
theorem dX14_init_100 : decode cX14_init 100 = .ok (.putfield 49, 3) := by decide +kernel
theorem dX14_init_103 : decode cX14_init 103 = .ok (.aload_n 0, 1) := by decide +kernel
theorem dX14_init_104 : decode cX14_init 104 = .ok (.new 37, 3) := by decide +kernel
theorem dX14_init_107 : decode cX14_init 107 = .ok (.dup, 1) := by decide +kernel
theorem dX14_init_108 : decode cX14_init 108 = .ok (.invokespecial 39, 3) := by decide +kernel
theorem dX14_init_111 : decode cX14_init 111 = .ok (.putfield 52, 3) := by decide +kernel
theorem dX14_init_114 : decode cX14_init 114 = .ok (.aload_n 0, 1) := by decide +kernel
theorem dX14_init_115 : decode cX14_init 115 = .ok (.new 37, 3) := by decide +kernel
theorem dX14_init_118 : decode cX14_init 118 = .ok (.dup, 1) := by decide +kernel
theorem dX14_init_119 : decode cX14_init 119 = .ok (.invokespecial 39, 3) := by decide +kernel
theorem dX14_init_122 : decode cX14_init 122 = .ok (.putfield 55, 3) := by decide +kernel
theorem dX14_init_125 : decode cX14_init 125 = .ok (.aload_n 0, 1) := by decide +kernel
theorem dX14_init_126 : decode cX14_init 126 = .ok (.aload_n 1, 1) := by decide +kernel
theorem dX14_init_127 : decode cX14_init 127 = .ok (.putfield 58, 3) := by decide +kernel
theorem dX14_init_130 : decode cX14_init 130 = .ok (.aload_n 0, 1) := by decide +kernel
theorem dX14_init_131 : decode cX14_init 131 = .ok (.aload_n 2, 1) := by decide +kernel
theorem dX14_init_132 : decode cX14_init 132 = .ok (.putfield 62, 3) := by decide +kernel
theorem dX14_init_135 : decode cX14_init 135 = .ok (.aload_n 0, 1) := by decide +kernel
theorem dX14_init_136 : decode cX14_init 136 = .ok (.aload_n 3, 1) := by decide +kernel
theorem dX14_init_137 : decode cX14_init 137 = .ok (.iconst 0, 1) := by decide +kernel
theorem dX14_init_138 : decode cX14_init 138 = .ok (.aload_n 0, 1) := by decide +kernel
theorem dX14_init_139 : decode cX14_init 139 = .ok (.getfield 9, 3) := by decide +kernel
theorem dX14_init_142 : decode cX14_init 142 = .ok (.invokevirtual 66, 3) := by decide +kernel
theorem dX14_init_145 : decode cX14_init 145 = .ok (.ifCond .ne 10, 3) := by decide +kernel
theorem dX14_init_148 : decode cX14_init 148 = .ok (.aload_n 2, 1) := by decide +kernel
theorem dX14_init_149 : decode cX14_init 149 = .ok (.bipush (-2), 2) := by decide +kernel
theorem dX14_init_151 : decode cX14_init 151 = .ok (.invokevirtual 70, 3) := by decide +kernel
theorem dX14_init_154 : decode cX14_init 154 = .ok (.athrow, 1) := by decide +kernel
theorem dX14_init_155 : decode cX14_init 155 = .ok (.aload_n 1, 1) := by decide +kernel
theorem dX14_init_156 : decode cX14_init 156 = .ok (.aload_n 0, 1) := by decide +kernel
theorem dX14_init_157 : decode cX14_init 157 = .ok (.getfield 9, 3) := by decide +kernel
theorem dX14_init_160 : decode cX14_init 160 = .ok (.aload_n 1, 1) := by decide +kernel
theorem dX14_init_161 : decode cX14_init 161 = .ok (.getfield 76, 3) := by decide +kernel
theorem dX14_init_164 : decode cX14_init 164 = .ok (.aload_n 0, 1) := by decide +kernel
theorem dX14_init_165 : decode cX14_init 165 = .ok (.getfield 42, 3) := by decide +kernel
theorem dX14_init_168 : decode cX14_init 168 = .ok (.invokevirtual 81, 3) := by decide +kernel
theorem dX14_init_171 : decode cX14_init 171 = .ok (.aload_n 1, 1) := by decide +kernel
theorem dX14_init_172 : decode cX14_init 172 = .ok (.aload_n 0, 1) := by decide +kernel
theorem dX14_init_173 : decode cX14_init 173 = .ok (.getfield 42, 3) := by decide +kernel
theorem dX14_init_176 : decode cX14_init 176 = .ok (.aload_n 0, 1) := by decide +kernel
theorem dX14_init_177 : decode cX14_init 177 = .ok (.getfield 24, 3) := by decide +kernel
theorem dX14_init_180 : decode cX14_init 180 = .ok (.iconst 0, 1) := by decide +kernel
theorem dX14_init_181 : decode cX14_init 181 = .ok (.invokevirtual 85, 3) := by decide +kernel
theorem dX14_init_184 : decode cX14_init 184 = .ok (.istore 4, 2) := by decide +kernel
theorem dX14_init_186 : decode cX14_init 186 = .ok (.return_, 1) := by decide +kernel
abbrev cX14_isSecret : ByteArray := prog_10_method_2_code
def yX14_isSecret : MethodName := ⟨RX14, "isSecret", "([BI[I)Z"⟩
theorem dX14_isSecret_0 : decode cX14_isSecret 0 = .ok (.aload_n 0, 1) := by decide +kernel
theorem dX14_isSecret_1 : decode cX14_isSecret 1 = .ok (.getfield 58, 3) := by decide +kernel
theorem dX14_isSecret_4 : decode cX14_isSecret 4 = .ok (.getfield 89, 3) := by decide +kernel
theorem dX14_isSecret_7 : decode cX14_isSecret 7 = .ok (.aload_n 1, 1) := by decide +kernel
theorem dX14_isSecret_8 : decode cX14_isSecret 8 = .ok (.iload_n 2, 1) := by decide +kernel
theorem dX14_isSecret_9 : decode cX14_isSecret 9 = .ok (.bipush 48, 2) := by decide +kernel
theorem dX14_isSecret_11 : decode cX14_isSecret 11 = .ok (.aload_n 3, 1) := by decide +kernel
theorem dX14_isSecret_12 : decode cX14_isSecret 12 = .ok (.invokevirtual 93, 3) := by decide +kernel
theorem dX14_isSecret_15 : decode cX14_isSecret 15 = .ok (.ifCond .eq 14, 3) := by decide +kernel
theorem dX14_isSecret_18 : decode cX14_isSecret 18 = .ok (.aload_n 3, 1) := by decide +kernel
theorem dX14_isSecret_19 : decode cX14_isSecret 19 = .ok (.invokestatic 99, 3) := by decide +kernel
theorem dX14_isSecret_22 : decode cX14_isSecret 22 = .ok (.ifCond .ne 7, 3) := by decide +kernel
theorem dX14_isSecret_25 : decode cX14_isSecret 25 = .ok (.iconst 1, 1) := by decide +kernel
theorem dX14_isSecret_26 : decode cX14_isSecret 26 = .ok (.goto 4, 3) := by decide +kernel
theorem dX14_isSecret_29 : decode cX14_isSecret 29 = .ok (.iconst 0, 1) := by decide +kernel
theorem dX14_isSecret_30 : decode cX14_isSecret 30 = .ok (.ireturn, 1) := by decide +kernel
abbrev cX14_publish : ByteArray := prog_10_method_9_code
def yX14_publish : MethodName := ⟨RX14, "publish", "([B)V"⟩
theorem dX14_publish_0 : decode cX14_publish 0 = .ok (.aload_n 0, 1) := by decide +kernel
theorem dX14_publish_1 : decode cX14_publish 1 = .ok (.getfield 24, 3) := by decide +kernel
theorem dX14_publish_4 : decode cX14_publish 4 = .ok (.iconst 0, 1) := by decide +kernel
theorem dX14_publish_5 : decode cX14_publish 5 = .ok (.aload_n 1, 1) := by decide +kernel
theorem dX14_publish_6 : decode cX14_publish 6 = .ok (.iconst 0, 1) := by decide +kernel
theorem dX14_publish_7 : decode cX14_publish 7 = .ok (.bipush 49, 2) := by decide +kernel
theorem dX14_publish_9 : decode cX14_publish 9 = .ok (.invokestatic 103, 3) := by decide +kernel
theorem dX14_publish_12 : decode cX14_publish 12 = .ok (.return_, 1) := by decide +kernel
abbrev cX14_publics : ByteArray := prog_10_method_8_code
def yX14_publics : MethodName := ⟨RX14, "publics", "()I"⟩
theorem dX14_publics_0 : decode cX14_publics 0 = .ok (.bipush 49, 2) := by decide +kernel
theorem dX14_publics_2 : decode cX14_publics 2 = .ok (.ireturn, 1) := by decide +kernel
abbrev cX14_blind : ByteArray := prog_10_method_5_code
def yX14_blind : MethodName := ⟨RX14, "blind", "()I"⟩
theorem dX14_blind_0 : decode cX14_blind 0 = .ok (.bipush 48, 2) := by decide +kernel
theorem dX14_blind_2 : decode cX14_blind 2 = .ok (.ireturn, 1) := by decide +kernel
abbrev cX14_blinds : ByteArray := prog_10_method_13_code
def yX14_blinds : MethodName := ⟨RX14, "blinds", "([B[BI[BI)[I"⟩
theorem dX14_blinds_0 : decode cX14_blinds 0 = .ok (.aload_n 0, 1) := by decide +kernel
theorem dX14_blinds_1 : decode cX14_blinds 1 = .ok (.aload_n 2, 1) := by decide +kernel
theorem dX14_blinds_2 : decode cX14_blinds 2 = .ok (.iload_n 3, 1) := by decide +kernel
theorem dX14_blinds_3 : decode cX14_blinds 3 = .ok (.aload_n 0, 1) := by decide +kernel
theorem dX14_blinds_4 : decode cX14_blinds 4 = .ok (.getfield 15, 3) := by decide +kernel
theorem dX14_blinds_7 : decode cX14_blinds 7 = .ok (.invokevirtual 66, 3) := by decide +kernel
theorem dX14_blinds_10 : decode cX14_blinds 10 = .ok (.ifCond .ne 13, 3) := by decide +kernel
theorem dX14_blinds_13 : decode cX14_blinds 13 = .ok (.aload_n 0, 1) := by decide +kernel
theorem dX14_blinds_14 : decode cX14_blinds 14 = .ok (.getfield 62, 3) := by decide +kernel
theorem dX14_blinds_17 : decode cX14_blinds 17 = .ok (.bipush (-4), 2) := by decide +kernel
theorem dX14_blinds_19 : decode cX14_blinds 19 = .ok (.invokevirtual 70, 3) := by decide +kernel
theorem dX14_blinds_22 : decode cX14_blinds 22 = .ok (.athrow, 1) := by decide +kernel
theorem dX14_blinds_23 : decode cX14_blinds 23 = .ok (.aload_n 0, 1) := by decide +kernel
theorem dX14_blinds_24 : decode cX14_blinds 24 = .ok (.aload_n 1, 1) := by decide +kernel
theorem dX14_blinds_25 : decode cX14_blinds 25 = .ok (.iconst 0, 1) := by decide +kernel
theorem dX14_blinds_26 : decode cX14_blinds 26 = .ok (.aload_n 0, 1) := by decide +kernel
theorem dX14_blinds_27 : decode cX14_blinds 27 = .ok (.getfield 42, 3) := by decide +kernel
theorem dX14_blinds_30 : decode cX14_blinds 30 = .ok (.invokevirtual 126, 3) := by decide +kernel
theorem dX14_blinds_33 : decode cX14_blinds 33 = .ok (.aload_n 0, 1) := by decide +kernel
theorem dX14_blinds_34 : decode cX14_blinds 34 = .ok (.getfield 58, 3) := by decide +kernel
theorem dX14_blinds_37 : decode cX14_blinds 37 = .ok (.aload_n 0, 1) := by decide +kernel
theorem dX14_blinds_38 : decode cX14_blinds 38 = .ok (.getfield 15, 3) := by decide +kernel
theorem dX14_blinds_41 : decode cX14_blinds 41 = .ok (.aload_n 0, 1) := by decide +kernel
theorem dX14_blinds_42 : decode cX14_blinds 42 = .ok (.getfield 42, 3) := by decide +kernel
theorem dX14_blinds_45 : decode cX14_blinds 45 = .ok (.aload_n 0, 1) := by decide +kernel
theorem dX14_blinds_46 : decode cX14_blinds 46 = .ok (.getfield 52, 3) := by decide +kernel
theorem dX14_blinds_49 : decode cX14_blinds 49 = .ok (.invokevirtual 81, 3) := by decide +kernel
theorem dX14_blinds_52 : decode cX14_blinds 52 = .ok (.aload_n 0, 1) := by decide +kernel
theorem dX14_blinds_53 : decode cX14_blinds 53 = .ok (.aload_n 0, 1) := by decide +kernel
theorem dX14_blinds_54 : decode cX14_blinds 54 = .ok (.getfield 52, 3) := by decide +kernel
theorem dX14_blinds_57 : decode cX14_blinds 57 = .ok (.aload 4, 2) := by decide +kernel
theorem dX14_blinds_59 : decode cX14_blinds 59 = .ok (.iload 5, 2) := by decide +kernel
theorem dX14_blinds_61 : decode cX14_blinds 61 = .ok (.invokevirtual 129, 3) := by decide +kernel
theorem dX14_blinds_64 : decode cX14_blinds 64 = .ok (.aload_n 0, 1) := by decide +kernel
theorem dX14_blinds_65 : decode cX14_blinds 65 = .ok (.getfield 15, 3) := by decide +kernel
theorem dX14_blinds_68 : decode cX14_blinds 68 = .ok (.invokevirtual 132, 3) := by decide +kernel
theorem dX14_blinds_71 : decode cX14_blinds 71 = .ok (.checkcast 133, 3) := by decide +kernel
theorem dX14_blinds_74 : decode cX14_blinds 74 = .ok (.areturn, 1) := by decide +kernel
abbrev cX14_group : ByteArray := prog_10_method_10_code
def yX14_group : MethodName := ⟨RX14, "group", "([BILVeilMint$Point;)V"⟩
theorem dX14_group_0 : decode cX14_group 0 = .ok (.aload_n 0, 1) := by decide +kernel
theorem dX14_group_1 : decode cX14_group 1 = .ok (.getfield 58, 3) := by decide +kernel
theorem dX14_group_4 : decode cX14_group 4 = .ok (.invokevirtual 109, 3) := by decide +kernel
theorem dX14_group_7 : decode cX14_group 7 = .ok (.aload_n 1, 1) := by decide +kernel
theorem dX14_group_8 : decode cX14_group 8 = .ok (.iload_n 2, 1) := by decide +kernel
theorem dX14_group_9 : decode cX14_group 9 = .ok (.bipush 98, 2) := by decide +kernel
theorem dX14_group_11 : decode cX14_group 11 = .ok (.invokevirtual 113, 3) := by decide +kernel
theorem dX14_group_14 : decode cX14_group 14 = .ok (.pop, 1) := by decide +kernel
theorem dX14_group_15 : decode cX14_group 15 = .ok (.aload_n 0, 1) := by decide +kernel
theorem dX14_group_16 : decode cX14_group 16 = .ok (.getfield 58, 3) := by decide +kernel
theorem dX14_group_19 : decode cX14_group 19 = .ok (.aload_n 3, 1) := by decide +kernel
theorem dX14_group_20 : decode cX14_group 20 = .ok (.invokevirtual 119, 3) := by decide +kernel
theorem dX14_group_23 : decode cX14_group 23 = .ok (.return_, 1) := by decide +kernel
abbrev cX14_write : ByteArray := prog_10_method_11_code
def yX14_write : MethodName := ⟨RX14, "write", "(LVeilMint$Point;[BI)V"⟩
theorem dX14_write_0 : decode cX14_write 0 = .ok (.aload_n 0, 1) := by decide +kernel
theorem dX14_write_1 : decode cX14_write 1 = .ok (.getfield 58, 3) := by decide +kernel
theorem dX14_write_4 : decode cX14_write 4 = .ok (.aload_n 1, 1) := by decide +kernel
theorem dX14_write_5 : decode cX14_write 5 = .ok (.aload_n 2, 1) := by decide +kernel
theorem dX14_write_6 : decode cX14_write 6 = .ok (.iload_n 3, 1) := by decide +kernel
theorem dX14_write_7 : decode cX14_write 7 = .ok (.invokevirtual 85, 3) := by decide +kernel
theorem dX14_write_10 : decode cX14_write 10 = .ok (.ifCond .ne 13, 3) := by decide +kernel
theorem dX14_write_13 : decode cX14_write 13 = .ok (.aload_n 0, 1) := by decide +kernel
theorem dX14_write_14 : decode cX14_write 14 = .ok (.getfield 62, 3) := by decide +kernel
theorem dX14_write_17 : decode cX14_write 17 = .ok (.bipush (-4), 2) := by decide +kernel
theorem dX14_write_19 : decode cX14_write 19 = .ok (.invokevirtual 70, 3) := by decide +kernel
theorem dX14_write_22 : decode cX14_write 22 = .ok (.athrow, 1) := by decide +kernel
theorem dX14_write_23 : decode cX14_write 23 = .ok (.return_, 1) := by decide +kernel
abbrev cX14_blinded : ByteArray := prog_10_method_3_code
def yX14_blinded : MethodName := ⟨RX14, "blinded", "()I"⟩
theorem dX14_blinded_0 : decode cX14_blinded 0 = .ok (.bipush 49, 2) := by decide +kernel
theorem dX14_blinded_2 : decode cX14_blinded 2 = .ok (.ireturn, 1) := by decide +kernel
abbrev cX14_chance : ByteArray := prog_10_method_6_code
def yX14_chance : MethodName := ⟨RX14, "chance", "()I"⟩
theorem dX14_chance_0 : decode cX14_chance 0 = .ok (.bipush 48, 2) := by decide +kernel
theorem dX14_chance_2 : decode cX14_chance 2 = .ok (.ireturn, 1) := by decide +kernel
abbrev cX14_issues : ByteArray := prog_10_method_16_code
def yX14_issues : MethodName := ⟨RX14, "issues", "([BII[B)V"⟩
theorem dX14_issues_0 : decode cX14_issues 0 = .ok (.iconst 0, 1) := by decide +kernel
theorem dX14_issues_1 : decode cX14_issues 1 = .ok (.istore 5, 2) := by decide +kernel
theorem dX14_issues_3 : decode cX14_issues 3 = .ok (.iload 5, 2) := by decide +kernel
theorem dX14_issues_5 : decode cX14_issues 5 = .ok (.iload_n 3, 1) := by decide +kernel
theorem dX14_issues_6 : decode cX14_issues 6 = .ok (.if_icmp .ge 59, 3) := by decide +kernel
theorem dX14_issues_9 : decode cX14_issues 9 = .ok (.aload_n 0, 1) := by decide +kernel
theorem dX14_issues_10 : decode cX14_issues 10 = .ok (.aload_n 1, 1) := by decide +kernel
theorem dX14_issues_11 : decode cX14_issues 11 = .ok (.iload_n 2, 1) := by decide +kernel
theorem dX14_issues_12 : decode cX14_issues 12 = .ok (.bipush 49, 2) := by decide +kernel
theorem dX14_issues_14 : decode cX14_issues 14 = .ok (.iload 5, 2) := by decide +kernel
theorem dX14_issues_16 : decode cX14_issues 16 = .ok (.imul, 1) := by decide +kernel
theorem dX14_issues_17 : decode cX14_issues 17 = .ok (.iadd, 1) := by decide +kernel
theorem dX14_issues_18 : decode cX14_issues 18 = .ok (.aload_n 0, 1) := by decide +kernel
theorem dX14_issues_19 : decode cX14_issues 19 = .ok (.getfield 42, 3) := by decide +kernel
theorem dX14_issues_22 : decode cX14_issues 22 = .ok (.invokevirtual 170, 3) := by decide +kernel
theorem dX14_issues_25 : decode cX14_issues 25 = .ok (.aload_n 0, 1) := by decide +kernel
theorem dX14_issues_26 : decode cX14_issues 26 = .ok (.getfield 58, 3) := by decide +kernel
theorem dX14_issues_29 : decode cX14_issues 29 = .ok (.aload_n 0, 1) := by decide +kernel
theorem dX14_issues_30 : decode cX14_issues 30 = .ok (.getfield 9, 3) := by decide +kernel
theorem dX14_issues_33 : decode cX14_issues 33 = .ok (.aload_n 0, 1) := by decide +kernel
theorem dX14_issues_34 : decode cX14_issues 34 = .ok (.getfield 42, 3) := by decide +kernel
theorem dX14_issues_37 : decode cX14_issues 37 = .ok (.aload_n 0, 1) := by decide +kernel
theorem dX14_issues_38 : decode cX14_issues 38 = .ok (.getfield 52, 3) := by decide +kernel
theorem dX14_issues_41 : decode cX14_issues 41 = .ok (.invokevirtual 81, 3) := by decide +kernel
theorem dX14_issues_44 : decode cX14_issues 44 = .ok (.aload_n 0, 1) := by decide +kernel
theorem dX14_issues_45 : decode cX14_issues 45 = .ok (.aload_n 0, 1) := by decide +kernel
theorem dX14_issues_46 : decode cX14_issues 46 = .ok (.getfield 52, 3) := by decide +kernel
theorem dX14_issues_49 : decode cX14_issues 49 = .ok (.aload 4, 2) := by decide +kernel
theorem dX14_issues_51 : decode cX14_issues 51 = .ok (.bipush 49, 2) := by decide +kernel
theorem dX14_issues_53 : decode cX14_issues 53 = .ok (.iload 5, 2) := by decide +kernel
theorem dX14_issues_55 : decode cX14_issues 55 = .ok (.imul, 1) := by decide +kernel
theorem dX14_issues_56 : decode cX14_issues 56 = .ok (.invokevirtual 129, 3) := by decide +kernel
theorem dX14_issues_59 : decode cX14_issues 59 = .ok (.iinc 5 1, 3) := by decide +kernel
theorem dX14_issues_62 : decode cX14_issues 62 = .ok (.goto (-59), 3) := by decide +kernel
theorem dX14_issues_65 : decode cX14_issues 65 = .ok (.aload_n 0, 1) := by decide +kernel
theorem dX14_issues_66 : decode cX14_issues 66 = .ok (.aload_n 1, 1) := by decide +kernel
theorem dX14_issues_67 : decode cX14_issues 67 = .ok (.iload_n 2, 1) := by decide +kernel
theorem dX14_issues_68 : decode cX14_issues 68 = .ok (.bipush 49, 2) := by decide +kernel
theorem dX14_issues_70 : decode cX14_issues 70 = .ok (.iload_n 3, 1) := by decide +kernel
theorem dX14_issues_71 : decode cX14_issues 71 = .ok (.imul, 1) := by decide +kernel
theorem dX14_issues_72 : decode cX14_issues 72 = .ok (.iadd, 1) := by decide +kernel
theorem dX14_issues_73 : decode cX14_issues 73 = .ok (.aload_n 0, 1) := by decide +kernel
theorem dX14_issues_74 : decode cX14_issues 74 = .ok (.getfield 15, 3) := by decide +kernel
theorem dX14_issues_77 : decode cX14_issues 77 = .ok (.invokevirtual 66, 3) := by decide +kernel
theorem dX14_issues_80 : decode cX14_issues 80 = .ok (.ifCond .ne 13, 3) := by decide +kernel
theorem dX14_issues_83 : decode cX14_issues 83 = .ok (.aload_n 0, 1) := by decide +kernel
theorem dX14_issues_84 : decode cX14_issues 84 = .ok (.getfield 62, 3) := by decide +kernel
theorem dX14_issues_87 : decode cX14_issues 87 = .ok (.bipush (-4), 2) := by decide +kernel
theorem dX14_issues_89 : decode cX14_issues 89 = .ok (.invokevirtual 70, 3) := by decide +kernel
theorem dX14_issues_92 : decode cX14_issues 92 = .ok (.athrow, 1) := by decide +kernel
theorem dX14_issues_93 : decode cX14_issues 93 = .ok (.aload_n 0, 1) := by decide +kernel
theorem dX14_issues_94 : decode cX14_issues 94 = .ok (.aload_n 1, 1) := by decide +kernel
theorem dX14_issues_95 : decode cX14_issues 95 = .ok (.iload_n 2, 1) := by decide +kernel
theorem dX14_issues_96 : decode cX14_issues 96 = .ok (.aload 4, 2) := by decide +kernel
theorem dX14_issues_98 : decode cX14_issues 98 = .ok (.iconst 0, 1) := by decide +kernel
theorem dX14_issues_99 : decode cX14_issues 99 = .ok (.iload_n 3, 1) := by decide +kernel
theorem dX14_issues_100 : decode cX14_issues 100 = .ok (.iconst 1, 1) := by decide +kernel
theorem dX14_issues_101 : decode cX14_issues 101 = .ok (.invokevirtual 178, 3) := by decide +kernel
theorem dX14_issues_104 : decode cX14_issues 104 = .ok (.aload_n 0, 1) := by decide +kernel
theorem dX14_issues_105 : decode cX14_issues 105 = .ok (.getfield 58, 3) := by decide +kernel
theorem dX14_issues_108 : decode cX14_issues 108 = .ok (.aload_n 0, 1) := by decide +kernel
theorem dX14_issues_109 : decode cX14_issues 109 = .ok (.getfield 15, 3) := by decide +kernel
theorem dX14_issues_112 : decode cX14_issues 112 = .ok (.aload_n 0, 1) := by decide +kernel
theorem dX14_issues_113 : decode cX14_issues 113 = .ok (.getfield 58, 3) := by decide +kernel
theorem dX14_issues_116 : decode cX14_issues 116 = .ok (.getfield 76, 3) := by decide +kernel
theorem dX14_issues_119 : decode cX14_issues 119 = .ok (.aload_n 0, 1) := by decide +kernel
theorem dX14_issues_120 : decode cX14_issues 120 = .ok (.getfield 52, 3) := by decide +kernel
theorem dX14_issues_123 : decode cX14_issues 123 = .ok (.invokevirtual 81, 3) := by decide +kernel
theorem dX14_issues_126 : decode cX14_issues 126 = .ok (.aload_n 0, 1) := by decide +kernel
theorem dX14_issues_127 : decode cX14_issues 127 = .ok (.getfield 58, 3) := by decide +kernel
theorem dX14_issues_130 : decode cX14_issues 130 = .ok (.aload_n 0, 1) := by decide +kernel
theorem dX14_issues_131 : decode cX14_issues 131 = .ok (.getfield 15, 3) := by decide +kernel
theorem dX14_issues_134 : decode cX14_issues 134 = .ok (.aload_n 0, 1) := by decide +kernel
theorem dX14_issues_135 : decode cX14_issues 135 = .ok (.getfield 46, 3) := by decide +kernel
theorem dX14_issues_138 : decode cX14_issues 138 = .ok (.aload_n 0, 1) := by decide +kernel
theorem dX14_issues_139 : decode cX14_issues 139 = .ok (.getfield 55, 3) := by decide +kernel
theorem dX14_issues_142 : decode cX14_issues 142 = .ok (.invokevirtual 81, 3) := by decide +kernel
theorem dX14_issues_145 : decode cX14_issues 145 = .ok (.aload_n 0, 1) := by decide +kernel
theorem dX14_issues_146 : decode cX14_issues 146 = .ok (.aload_n 0, 1) := by decide +kernel
theorem dX14_issues_147 : decode cX14_issues 147 = .ok (.getfield 52, 3) := by decide +kernel
theorem dX14_issues_150 : decode cX14_issues 150 = .ok (.aload_n 0, 1) := by decide +kernel
theorem dX14_issues_151 : decode cX14_issues 151 = .ok (.getfield 55, 3) := by decide +kernel
theorem dX14_issues_154 : decode cX14_issues 154 = .ok (.aload_n 0, 1) := by decide +kernel
theorem dX14_issues_155 : decode cX14_issues 155 = .ok (.getfield 18, 3) := by decide +kernel
theorem dX14_issues_158 : decode cX14_issues 158 = .ok (.invokevirtual 182, 3) := by decide +kernel
theorem dX14_issues_161 : decode cX14_issues 161 = .ok (.aload_n 0, 1) := by decide +kernel
theorem dX14_issues_162 : decode cX14_issues 162 = .ok (.getfield 58, 3) := by decide +kernel
theorem dX14_issues_165 : decode cX14_issues 165 = .ok (.getfield 89, 3) := by decide +kernel
theorem dX14_issues_168 : decode cX14_issues 168 = .ok (.astore 5, 2) := by decide +kernel
theorem dX14_issues_170 : decode cX14_issues 170 = .ok (.aload 5, 2) := by decide +kernel
theorem dX14_issues_172 : decode cX14_issues 172 = .ok (.aload_n 0, 1) := by decide +kernel
theorem dX14_issues_173 : decode cX14_issues 173 = .ok (.getfield 18, 3) := by decide +kernel
theorem dX14_issues_176 : decode cX14_issues 176 = .ok (.aload_n 0, 1) := by decide +kernel
theorem dX14_issues_177 : decode cX14_issues 177 = .ok (.getfield 21, 3) := by decide +kernel
theorem dX14_issues_180 : decode cX14_issues 180 = .ok (.invokevirtual 186, 3) := by decide +kernel
theorem dX14_issues_183 : decode cX14_issues 183 = .ok (.aload 5, 2) := by decide +kernel
theorem dX14_issues_185 : decode cX14_issues 185 = .ok (.aload_n 0, 1) := by decide +kernel
theorem dX14_issues_186 : decode cX14_issues 186 = .ok (.getfield 21, 3) := by decide +kernel
theorem dX14_issues_189 : decode cX14_issues 189 = .ok (.aload_n 0, 1) := by decide +kernel
theorem dX14_issues_190 : decode cX14_issues 190 = .ok (.getfield 9, 3) := by decide +kernel
theorem dX14_issues_193 : decode cX14_issues 193 = .ok (.aload_n 0, 1) := by decide +kernel
theorem dX14_issues_194 : decode cX14_issues 194 = .ok (.getfield 21, 3) := by decide +kernel
theorem dX14_issues_197 : decode cX14_issues 197 = .ok (.invokevirtual 190, 3) := by decide +kernel
theorem dX14_issues_200 : decode cX14_issues 200 = .ok (.aload 5, 2) := by decide +kernel
theorem dX14_issues_202 : decode cX14_issues 202 = .ok (.aload_n 0, 1) := by decide +kernel
theorem dX14_issues_203 : decode cX14_issues 203 = .ok (.getfield 15, 3) := by decide +kernel
theorem dX14_issues_206 : decode cX14_issues 206 = .ok (.aload_n 0, 1) := by decide +kernel
theorem dX14_issues_207 : decode cX14_issues 207 = .ok (.getfield 21, 3) := by decide +kernel
theorem dX14_issues_210 : decode cX14_issues 210 = .ok (.aload_n 0, 1) := by decide +kernel
theorem dX14_issues_211 : decode cX14_issues 211 = .ok (.getfield 21, 3) := by decide +kernel
theorem dX14_issues_214 : decode cX14_issues 214 = .ok (.invokevirtual 194, 3) := by decide +kernel
theorem dX14_issues_217 : decode cX14_issues 217 = .ok (.aload_n 0, 1) := by decide +kernel
theorem dX14_issues_218 : decode cX14_issues 218 = .ok (.getfield 18, 3) := by decide +kernel
theorem dX14_issues_221 : decode cX14_issues 221 = .ok (.aload 4, 2) := by decide +kernel
theorem dX14_issues_223 : decode cX14_issues 223 = .ok (.bipush 49, 2) := by decide +kernel
theorem dX14_issues_225 : decode cX14_issues 225 = .ok (.iload_n 3, 1) := by decide +kernel
theorem dX14_issues_226 : decode cX14_issues 226 = .ok (.imul, 1) := by decide +kernel
theorem dX14_issues_227 : decode cX14_issues 227 = .ok (.bipush 48, 2) := by decide +kernel
theorem dX14_issues_229 : decode cX14_issues 229 = .ok (.invokestatic 197, 3) := by decide +kernel
theorem dX14_issues_232 : decode cX14_issues 232 = .ok (.aload_n 0, 1) := by decide +kernel
theorem dX14_issues_233 : decode cX14_issues 233 = .ok (.getfield 21, 3) := by decide +kernel
theorem dX14_issues_236 : decode cX14_issues 236 = .ok (.aload 4, 2) := by decide +kernel
theorem dX14_issues_238 : decode cX14_issues 238 = .ok (.bipush 49, 2) := by decide +kernel
theorem dX14_issues_240 : decode cX14_issues 240 = .ok (.iload_n 3, 1) := by decide +kernel
theorem dX14_issues_241 : decode cX14_issues 241 = .ok (.imul, 1) := by decide +kernel
theorem dX14_issues_242 : decode cX14_issues 242 = .ok (.bipush 48, 2) := by decide +kernel
theorem dX14_issues_244 : decode cX14_issues 244 = .ok (.iadd, 1) := by decide +kernel
theorem dX14_issues_245 : decode cX14_issues 245 = .ok (.bipush 48, 2) := by decide +kernel
theorem dX14_issues_247 : decode cX14_issues 247 = .ok (.invokestatic 197, 3) := by decide +kernel
theorem dX14_issues_250 : decode cX14_issues 250 = .ok (.return_, 1) := by decide +kernel
abbrev cX14_read : ByteArray := prog_10_method_12_code
def yX14_read : MethodName := ⟨RX14, "read", "([BILVeilMint$Point;)V"⟩
theorem dX14_read_0 : decode cX14_read 0 = .ok (.aload_n 0, 1) := by decide +kernel
theorem dX14_read_1 : decode cX14_read 1 = .ok (.getfield 58, 3) := by decide +kernel
theorem dX14_read_4 : decode cX14_read 4 = .ok (.aload_n 1, 1) := by decide +kernel
theorem dX14_read_5 : decode cX14_read 5 = .ok (.iload_n 2, 1) := by decide +kernel
theorem dX14_read_6 : decode cX14_read 6 = .ok (.aload_n 3, 1) := by decide +kernel
theorem dX14_read_7 : decode cX14_read 7 = .ok (.invokevirtual 123, 3) := by decide +kernel
theorem dX14_read_10 : decode cX14_read 10 = .ok (.ifCond .ne 13, 3) := by decide +kernel
theorem dX14_read_13 : decode cX14_read 13 = .ok (.aload_n 0, 1) := by decide +kernel
theorem dX14_read_14 : decode cX14_read 14 = .ok (.getfield 62, 3) := by decide +kernel
theorem dX14_read_17 : decode cX14_read 17 = .ok (.bipush (-4), 2) := by decide +kernel
theorem dX14_read_19 : decode cX14_read 19 = .ok (.invokevirtual 70, 3) := by decide +kernel
theorem dX14_read_22 : decode cX14_read 22 = .ok (.athrow, 1) := by decide +kernel
theorem dX14_read_23 : decode cX14_read 23 = .ok (.return_, 1) := by decide +kernel
abbrev cX14_composites : ByteArray := prog_10_method_14_code
def yX14_composites : MethodName := ⟨RX14, "composites", "([BI[BIIZ)V"⟩
theorem dX14_composites_0 : decode cX14_composites 0 = .ok (.aload_n 0, 1) := by decide +kernel
theorem dX14_composites_1 : decode cX14_composites 1 = .ok (.getfield 58, 3) := by decide +kernel
theorem dX14_composites_4 : decode cX14_composites 4 = .ok (.getfield 137, 3) := by decide +kernel
theorem dX14_composites_7 : decode cX14_composites 7 = .ok (.invokevirtual 141, 3) := by decide +kernel
theorem dX14_composites_10 : decode cX14_composites 10 = .ok (.astore 7, 2) := by decide +kernel
theorem dX14_composites_12 : decode cX14_composites 12 = .ok (.aload 7, 2) := by decide +kernel
theorem dX14_composites_14 : decode cX14_composites 14 = .ok (.bipush 49, 2) := by decide +kernel
theorem dX14_composites_16 : decode cX14_composites 16 = .ok (.invokevirtual 144, 3) := by decide +kernel
theorem dX14_composites_19 : decode cX14_composites 19 = .ok (.aload_n 0, 1) := by decide +kernel
theorem dX14_composites_20 : decode cX14_composites 20 = .ok (.getfield 24, 3) := by decide +kernel
theorem dX14_composites_23 : decode cX14_composites 23 = .ok (.iconst 0, 1) := by decide +kernel
theorem dX14_composites_24 : decode cX14_composites 24 = .ok (.bipush 49, 2) := by decide +kernel
theorem dX14_composites_26 : decode cX14_composites 26 = .ok (.invokevirtual 113, 3) := by decide +kernel
theorem dX14_composites_29 : decode cX14_composites 29 = .ok (.bipush 25, 2) := by decide +kernel
theorem dX14_composites_31 : decode cX14_composites 31 = .ok (.invokevirtual 144, 3) := by decide +kernel
theorem dX14_composites_34 : decode cX14_composites 34 = .ok (.ldc 148, 2) := by decide +kernel
theorem dX14_composites_36 : decode cX14_composites 36 = .ok (.invokevirtual 150, 3) := by decide +kernel
theorem dX14_composites_39 : decode cX14_composites 39 = .ok (.iconst 1, 1) := by decide +kernel
theorem dX14_composites_40 : decode cX14_composites 40 = .ok (.invokevirtual 154, 3) := by decide +kernel
theorem dX14_composites_43 : decode cX14_composites 43 = .ok (.ldc 156, 2) := by decide +kernel
theorem dX14_composites_45 : decode cX14_composites 45 = .ok (.invokevirtual 150, 3) := by decide +kernel
theorem dX14_composites_48 : decode cX14_composites 48 = .ok (.pop, 1) := by decide +kernel
theorem dX14_composites_49 : decode cX14_composites 49 = .ok (.aload 7, 2) := by decide +kernel
theorem dX14_composites_51 : decode cX14_composites 51 = .ok (.invokevirtual 158, 3) := by decide +kernel
theorem dX14_composites_54 : decode cX14_composites 54 = .ok (.iconst 0, 1) := by decide +kernel
theorem dX14_composites_55 : decode cX14_composites 55 = .ok (.aload_n 0, 1) := by decide +kernel
theorem dX14_composites_56 : decode cX14_composites 56 = .ok (.getfield 28, 3) := by decide +kernel
theorem dX14_composites_59 : decode cX14_composites 59 = .ok (.iconst 0, 1) := by decide +kernel
theorem dX14_composites_60 : decode cX14_composites 60 = .ok (.bipush 48, 2) := by decide +kernel
theorem dX14_composites_62 : decode cX14_composites 62 = .ok (.invokestatic 103, 3) := by decide +kernel
theorem dX14_composites_65 : decode cX14_composites 65 = .ok (.aload_n 0, 1) := by decide +kernel
theorem dX14_composites_66 : decode cX14_composites 66 = .ok (.getfield 46, 3) := by decide +kernel
theorem dX14_composites_69 : decode cX14_composites 69 = .ok (.invokevirtual 162, 3) := by decide +kernel
theorem dX14_composites_72 : decode cX14_composites 72 = .ok (.aload_n 0, 1) := by decide +kernel
theorem dX14_composites_73 : decode cX14_composites 73 = .ok (.getfield 49, 3) := by decide +kernel
theorem dX14_composites_76 : decode cX14_composites 76 = .ok (.invokevirtual 162, 3) := by decide +kernel
theorem dX14_composites_79 : decode cX14_composites 79 = .ok (.iconst 0, 1) := by decide +kernel
theorem dX14_composites_80 : decode cX14_composites 80 = .ok (.istore 8, 2) := by decide +kernel
theorem dX14_composites_82 : decode cX14_composites 82 = .ok (.iload 8, 2) := by decide +kernel
theorem dX14_composites_84 : decode cX14_composites 84 = .ok (.iload 5, 2) := by decide +kernel
theorem dX14_composites_86 : decode cX14_composites 86 = .ok (.if_icmp .ge 203, 3) := by decide +kernel
theorem dX14_composites_89 : decode cX14_composites 89 = .ok (.aload_n 0, 1) := by decide +kernel
theorem dX14_composites_90 : decode cX14_composites 90 = .ok (.getfield 58, 3) := by decide +kernel
theorem dX14_composites_93 : decode cX14_composites 93 = .ok (.invokevirtual 109, 3) := by decide +kernel
theorem dX14_composites_96 : decode cX14_composites 96 = .ok (.astore 9, 2) := by decide +kernel
theorem dX14_composites_98 : decode cX14_composites 98 = .ok (.aload 9, 2) := by decide +kernel
theorem dX14_composites_100 : decode cX14_composites 100 = .ok (.bipush 48, 2) := by decide +kernel
theorem dX14_composites_102 : decode cX14_composites 102 = .ok (.invokevirtual 144, 3) := by decide +kernel
theorem dX14_composites_105 : decode cX14_composites 105 = .ok (.aload_n 0, 1) := by decide +kernel
theorem dX14_composites_106 : decode cX14_composites 106 = .ok (.getfield 28, 3) := by decide +kernel
theorem dX14_composites_109 : decode cX14_composites 109 = .ok (.iconst 0, 1) := by decide +kernel
theorem dX14_composites_110 : decode cX14_composites 110 = .ok (.bipush 48, 2) := by decide +kernel
theorem dX14_composites_112 : decode cX14_composites 112 = .ok (.invokevirtual 113, 3) := by decide +kernel
theorem dX14_composites_115 : decode cX14_composites 115 = .ok (.iload 8, 2) := by decide +kernel
theorem dX14_composites_117 : decode cX14_composites 117 = .ok (.invokevirtual 144, 3) := by decide +kernel
theorem dX14_composites_120 : decode cX14_composites 120 = .ok (.bipush 49, 2) := by decide +kernel
theorem dX14_composites_122 : decode cX14_composites 122 = .ok (.invokevirtual 144, 3) := by decide +kernel
theorem dX14_composites_125 : decode cX14_composites 125 = .ok (.aload_n 1, 1) := by decide +kernel
theorem dX14_composites_126 : decode cX14_composites 126 = .ok (.iload_n 2, 1) := by decide +kernel
theorem dX14_composites_127 : decode cX14_composites 127 = .ok (.bipush 49, 2) := by decide +kernel
theorem dX14_composites_129 : decode cX14_composites 129 = .ok (.iload 8, 2) := by decide +kernel
theorem dX14_composites_131 : decode cX14_composites 131 = .ok (.imul, 1) := by decide +kernel
theorem dX14_composites_132 : decode cX14_composites 132 = .ok (.iadd, 1) := by decide +kernel
theorem dX14_composites_133 : decode cX14_composites 133 = .ok (.bipush 49, 2) := by decide +kernel
theorem dX14_composites_135 : decode cX14_composites 135 = .ok (.invokevirtual 113, 3) := by decide +kernel
theorem dX14_composites_138 : decode cX14_composites 138 = .ok (.bipush 49, 2) := by decide +kernel
theorem dX14_composites_140 : decode cX14_composites 140 = .ok (.invokevirtual 144, 3) := by decide +kernel
theorem dX14_composites_143 : decode cX14_composites 143 = .ok (.aload_n 3, 1) := by decide +kernel
theorem dX14_composites_144 : decode cX14_composites 144 = .ok (.iload 4, 2) := by decide +kernel
theorem dX14_composites_146 : decode cX14_composites 146 = .ok (.bipush 49, 2) := by decide +kernel
theorem dX14_composites_148 : decode cX14_composites 148 = .ok (.iload 8, 2) := by decide +kernel
theorem dX14_composites_150 : decode cX14_composites 150 = .ok (.imul, 1) := by decide +kernel
theorem dX14_composites_151 : decode cX14_composites 151 = .ok (.iadd, 1) := by decide +kernel
theorem dX14_composites_152 : decode cX14_composites 152 = .ok (.bipush 49, 2) := by decide +kernel
theorem dX14_composites_154 : decode cX14_composites 154 = .ok (.invokevirtual 113, 3) := by decide +kernel
theorem dX14_composites_157 : decode cX14_composites 157 = .ok (.ldc 165, 2) := by decide +kernel
theorem dX14_composites_159 : decode cX14_composites 159 = .ok (.invokevirtual 150, 3) := by decide +kernel
theorem dX14_composites_162 : decode cX14_composites 162 = .ok (.pop, 1) := by decide +kernel
theorem dX14_composites_163 : decode cX14_composites 163 = .ok (.aload_n 0, 1) := by decide +kernel
theorem dX14_composites_164 : decode cX14_composites 164 = .ok (.getfield 58, 3) := by decide +kernel
theorem dX14_composites_167 : decode cX14_composites 167 = .ok (.aload_n 0, 1) := by decide +kernel
theorem dX14_composites_168 : decode cX14_composites 168 = .ok (.getfield 18, 3) := by decide +kernel
theorem dX14_composites_171 : decode cX14_composites 171 = .ok (.invokevirtual 167, 3) := by decide +kernel
theorem dX14_composites_174 : decode cX14_composites 174 = .ok (.aload_n 0, 1) := by decide +kernel
theorem dX14_composites_175 : decode cX14_composites 175 = .ok (.aload_n 1, 1) := by decide +kernel
theorem dX14_composites_176 : decode cX14_composites 176 = .ok (.iload_n 2, 1) := by decide +kernel
theorem dX14_composites_177 : decode cX14_composites 177 = .ok (.bipush 49, 2) := by decide +kernel
theorem dX14_composites_179 : decode cX14_composites 179 = .ok (.iload 8, 2) := by decide +kernel
theorem dX14_composites_181 : decode cX14_composites 181 = .ok (.imul, 1) := by decide +kernel
theorem dX14_composites_182 : decode cX14_composites 182 = .ok (.iadd, 1) := by decide +kernel
theorem dX14_composites_183 : decode cX14_composites 183 = .ok (.aload_n 0, 1) := by decide +kernel
theorem dX14_composites_184 : decode cX14_composites 184 = .ok (.getfield 42, 3) := by decide +kernel
theorem dX14_composites_187 : decode cX14_composites 187 = .ok (.invokevirtual 170, 3) := by decide +kernel
theorem dX14_composites_190 : decode cX14_composites 190 = .ok (.aload_n 0, 1) := by decide +kernel
theorem dX14_composites_191 : decode cX14_composites 191 = .ok (.getfield 58, 3) := by decide +kernel
theorem dX14_composites_194 : decode cX14_composites 194 = .ok (.aload_n 0, 1) := by decide +kernel
theorem dX14_composites_195 : decode cX14_composites 195 = .ok (.getfield 18, 3) := by decide +kernel
theorem dX14_composites_198 : decode cX14_composites 198 = .ok (.aload_n 0, 1) := by decide +kernel
theorem dX14_composites_199 : decode cX14_composites 199 = .ok (.getfield 42, 3) := by decide +kernel
theorem dX14_composites_202 : decode cX14_composites 202 = .ok (.aload_n 0, 1) := by decide +kernel
theorem dX14_composites_203 : decode cX14_composites 203 = .ok (.getfield 52, 3) := by decide +kernel
theorem dX14_composites_206 : decode cX14_composites 206 = .ok (.invokevirtual 81, 3) := by decide +kernel
theorem dX14_composites_209 : decode cX14_composites 209 = .ok (.aload_n 0, 1) := by decide +kernel
theorem dX14_composites_210 : decode cX14_composites 210 = .ok (.getfield 58, 3) := by decide +kernel
theorem dX14_composites_213 : decode cX14_composites 213 = .ok (.aload_n 0, 1) := by decide +kernel
theorem dX14_composites_214 : decode cX14_composites 214 = .ok (.getfield 46, 3) := by decide +kernel
theorem dX14_composites_217 : decode cX14_composites 217 = .ok (.aload_n 0, 1) := by decide +kernel
theorem dX14_composites_218 : decode cX14_composites 218 = .ok (.getfield 52, 3) := by decide +kernel
theorem dX14_composites_221 : decode cX14_composites 221 = .ok (.invokevirtual 172, 3) := by decide +kernel
theorem dX14_composites_224 : decode cX14_composites 224 = .ok (.iload 6, 2) := by decide +kernel
theorem dX14_composites_226 : decode cX14_composites 226 = .ok (.ifCond .eq 6, 3) := by decide +kernel
theorem dX14_composites_229 : decode cX14_composites 229 = .ok (.goto 54, 3) := by decide +kernel
theorem dX14_composites_232 : decode cX14_composites 232 = .ok (.aload_n 0, 1) := by decide +kernel
theorem dX14_composites_233 : decode cX14_composites 233 = .ok (.aload_n 3, 1) := by decide +kernel
theorem dX14_composites_234 : decode cX14_composites 234 = .ok (.iload 4, 2) := by decide +kernel
theorem dX14_composites_236 : decode cX14_composites 236 = .ok (.bipush 49, 2) := by decide +kernel
theorem dX14_composites_238 : decode cX14_composites 238 = .ok (.iload 8, 2) := by decide +kernel
theorem dX14_composites_240 : decode cX14_composites 240 = .ok (.imul, 1) := by decide +kernel
theorem dX14_composites_241 : decode cX14_composites 241 = .ok (.iadd, 1) := by decide +kernel
theorem dX14_composites_242 : decode cX14_composites 242 = .ok (.aload_n 0, 1) := by decide +kernel
theorem dX14_composites_243 : decode cX14_composites 243 = .ok (.getfield 42, 3) := by decide +kernel
theorem dX14_composites_246 : decode cX14_composites 246 = .ok (.invokevirtual 170, 3) := by decide +kernel
theorem dX14_composites_249 : decode cX14_composites 249 = .ok (.aload_n 0, 1) := by decide +kernel
theorem dX14_composites_250 : decode cX14_composites 250 = .ok (.getfield 58, 3) := by decide +kernel
theorem dX14_composites_253 : decode cX14_composites 253 = .ok (.aload_n 0, 1) := by decide +kernel
theorem dX14_composites_254 : decode cX14_composites 254 = .ok (.getfield 18, 3) := by decide +kernel
theorem dX14_composites_257 : decode cX14_composites 257 = .ok (.aload_n 0, 1) := by decide +kernel
theorem dX14_composites_258 : decode cX14_composites 258 = .ok (.getfield 42, 3) := by decide +kernel
theorem dX14_composites_261 : decode cX14_composites 261 = .ok (.aload_n 0, 1) := by decide +kernel
theorem dX14_composites_262 : decode cX14_composites 262 = .ok (.getfield 52, 3) := by decide +kernel
theorem dX14_composites_265 : decode cX14_composites 265 = .ok (.invokevirtual 81, 3) := by decide +kernel
theorem dX14_composites_268 : decode cX14_composites 268 = .ok (.aload_n 0, 1) := by decide +kernel
theorem dX14_composites_269 : decode cX14_composites 269 = .ok (.getfield 58, 3) := by decide +kernel
theorem dX14_composites_272 : decode cX14_composites 272 = .ok (.aload_n 0, 1) := by decide +kernel
theorem dX14_composites_273 : decode cX14_composites 273 = .ok (.getfield 49, 3) := by decide +kernel
theorem dX14_composites_276 : decode cX14_composites 276 = .ok (.aload_n 0, 1) := by decide +kernel
theorem dX14_composites_277 : decode cX14_composites 277 = .ok (.getfield 52, 3) := by decide +kernel
theorem dX14_composites_280 : decode cX14_composites 280 = .ok (.invokevirtual 172, 3) := by decide +kernel
theorem dX14_composites_283 : decode cX14_composites 283 = .ok (.iinc 8 1, 3) := by decide +kernel
theorem dX14_composites_286 : decode cX14_composites 286 = .ok (.goto (-204), 3) := by decide +kernel
theorem dX14_composites_289 : decode cX14_composites 289 = .ok (.iload 6, 2) := by decide +kernel
theorem dX14_composites_291 : decode cX14_composites 291 = .ok (.ifCond .eq 22, 3) := by decide +kernel
theorem dX14_composites_294 : decode cX14_composites 294 = .ok (.aload_n 0, 1) := by decide +kernel
theorem dX14_composites_295 : decode cX14_composites 295 = .ok (.getfield 58, 3) := by decide +kernel
theorem dX14_composites_298 : decode cX14_composites 298 = .ok (.aload_n 0, 1) := by decide +kernel
theorem dX14_composites_299 : decode cX14_composites 299 = .ok (.getfield 9, 3) := by decide +kernel
theorem dX14_composites_302 : decode cX14_composites 302 = .ok (.aload_n 0, 1) := by decide +kernel
theorem dX14_composites_303 : decode cX14_composites 303 = .ok (.getfield 46, 3) := by decide +kernel
theorem dX14_composites_306 : decode cX14_composites 306 = .ok (.aload_n 0, 1) := by decide +kernel
theorem dX14_composites_307 : decode cX14_composites 307 = .ok (.getfield 49, 3) := by decide +kernel
theorem dX14_composites_310 : decode cX14_composites 310 = .ok (.invokevirtual 81, 3) := by decide +kernel
theorem dX14_composites_313 : decode cX14_composites 313 = .ok (.return_, 1) := by decide +kernel
abbrev cX14_challenge : ByteArray := prog_10_method_15_code
def yX14_challenge : MethodName := ⟨RX14, "challenge", "(LVeilMint$Point;LVeilMint$Point;[I)V"⟩
theorem dX14_challenge_0 : decode cX14_challenge 0 = .ok (.aload_n 0, 1) := by decide +kernel
theorem dX14_challenge_1 : decode cX14_challenge 1 = .ok (.getfield 24, 3) := by decide +kernel
theorem dX14_challenge_4 : decode cX14_challenge 4 = .ok (.iconst 0, 1) := by decide +kernel
theorem dX14_challenge_5 : decode cX14_challenge 5 = .ok (.aload_n 0, 1) := by decide +kernel
theorem dX14_challenge_6 : decode cX14_challenge 6 = .ok (.getfield 31, 3) := by decide +kernel
theorem dX14_challenge_9 : decode cX14_challenge 9 = .ok (.iconst 0, 1) := by decide +kernel
theorem dX14_challenge_10 : decode cX14_challenge 10 = .ok (.bipush 49, 2) := by decide +kernel
theorem dX14_challenge_12 : decode cX14_challenge 12 = .ok (.invokestatic 103, 3) := by decide +kernel
theorem dX14_challenge_15 : decode cX14_challenge 15 = .ok (.aload_n 0, 1) := by decide +kernel
theorem dX14_challenge_16 : decode cX14_challenge 16 = .ok (.aload_n 0, 1) := by decide +kernel
theorem dX14_challenge_17 : decode cX14_challenge 17 = .ok (.getfield 46, 3) := by decide +kernel
theorem dX14_challenge_20 : decode cX14_challenge 20 = .ok (.aload_n 0, 1) := by decide +kernel
theorem dX14_challenge_21 : decode cX14_challenge 21 = .ok (.getfield 31, 3) := by decide +kernel
theorem dX14_challenge_24 : decode cX14_challenge 24 = .ok (.bipush 49, 2) := by decide +kernel
theorem dX14_challenge_26 : decode cX14_challenge 26 = .ok (.invokevirtual 129, 3) := by decide +kernel
theorem dX14_challenge_29 : decode cX14_challenge 29 = .ok (.aload_n 0, 1) := by decide +kernel
theorem dX14_challenge_30 : decode cX14_challenge 30 = .ok (.aload_n 0, 1) := by decide +kernel
theorem dX14_challenge_31 : decode cX14_challenge 31 = .ok (.getfield 49, 3) := by decide +kernel
theorem dX14_challenge_34 : decode cX14_challenge 34 = .ok (.aload_n 0, 1) := by decide +kernel
theorem dX14_challenge_35 : decode cX14_challenge 35 = .ok (.getfield 31, 3) := by decide +kernel
theorem dX14_challenge_38 : decode cX14_challenge 38 = .ok (.bipush 98, 2) := by decide +kernel
theorem dX14_challenge_40 : decode cX14_challenge 40 = .ok (.invokevirtual 129, 3) := by decide +kernel
theorem dX14_challenge_43 : decode cX14_challenge 43 = .ok (.aload_n 0, 1) := by decide +kernel
theorem dX14_challenge_44 : decode cX14_challenge 44 = .ok (.aload_n 1, 1) := by decide +kernel
theorem dX14_challenge_45 : decode cX14_challenge 45 = .ok (.aload_n 0, 1) := by decide +kernel
theorem dX14_challenge_46 : decode cX14_challenge 46 = .ok (.getfield 31, 3) := by decide +kernel
theorem dX14_challenge_49 : decode cX14_challenge 49 = .ok (.sipush 147, 3) := by decide +kernel
theorem dX14_challenge_52 : decode cX14_challenge 52 = .ok (.invokevirtual 129, 3) := by decide +kernel
theorem dX14_challenge_55 : decode cX14_challenge 55 = .ok (.aload_n 0, 1) := by decide +kernel
theorem dX14_challenge_56 : decode cX14_challenge 56 = .ok (.aload_n 2, 1) := by decide +kernel
theorem dX14_challenge_57 : decode cX14_challenge 57 = .ok (.aload_n 0, 1) := by decide +kernel
theorem dX14_challenge_58 : decode cX14_challenge 58 = .ok (.getfield 31, 3) := by decide +kernel
theorem dX14_challenge_61 : decode cX14_challenge 61 = .ok (.sipush 196, 3) := by decide +kernel
theorem dX14_challenge_64 : decode cX14_challenge 64 = .ok (.invokevirtual 129, 3) := by decide +kernel
theorem dX14_challenge_67 : decode cX14_challenge 67 = .ok (.aload_n 0, 1) := by decide +kernel
theorem dX14_challenge_68 : decode cX14_challenge 68 = .ok (.getfield 58, 3) := by decide +kernel
theorem dX14_challenge_71 : decode cX14_challenge 71 = .ok (.invokevirtual 109, 3) := by decide +kernel
theorem dX14_challenge_74 : decode cX14_challenge 74 = .ok (.astore 4, 2) := by decide +kernel
theorem dX14_challenge_76 : decode cX14_challenge 76 = .ok (.iconst 0, 1) := by decide +kernel
theorem dX14_challenge_77 : decode cX14_challenge 77 = .ok (.istore 5, 2) := by decide +kernel
theorem dX14_challenge_79 : decode cX14_challenge 79 = .ok (.iload 5, 2) := by decide +kernel
theorem dX14_challenge_81 : decode cX14_challenge 81 = .ok (.iconst 5, 1) := by decide +kernel
theorem dX14_challenge_82 : decode cX14_challenge 82 = .ok (.if_icmp .ge 31, 3) := by decide +kernel
theorem dX14_challenge_85 : decode cX14_challenge 85 = .ok (.aload 4, 2) := by decide +kernel
theorem dX14_challenge_87 : decode cX14_challenge 87 = .ok (.bipush 49, 2) := by decide +kernel
theorem dX14_challenge_89 : decode cX14_challenge 89 = .ok (.invokevirtual 144, 3) := by decide +kernel
theorem dX14_challenge_92 : decode cX14_challenge 92 = .ok (.aload_n 0, 1) := by decide +kernel
theorem dX14_challenge_93 : decode cX14_challenge 93 = .ok (.getfield 31, 3) := by decide +kernel
theorem dX14_challenge_96 : decode cX14_challenge 96 = .ok (.bipush 49, 2) := by decide +kernel
theorem dX14_challenge_98 : decode cX14_challenge 98 = .ok (.iload 5, 2) := by decide +kernel
theorem dX14_challenge_100 : decode cX14_challenge 100 = .ok (.imul, 1) := by decide +kernel
theorem dX14_challenge_101 : decode cX14_challenge 101 = .ok (.bipush 49, 2) := by decide +kernel
theorem dX14_challenge_103 : decode cX14_challenge 103 = .ok (.invokevirtual 113, 3) := by decide +kernel
theorem dX14_challenge_106 : decode cX14_challenge 106 = .ok (.pop, 1) := by decide +kernel
theorem dX14_challenge_107 : decode cX14_challenge 107 = .ok (.iinc 5 1, 3) := by decide +kernel
theorem dX14_challenge_110 : decode cX14_challenge 110 = .ok (.goto (-31), 3) := by decide +kernel
theorem dX14_challenge_113 : decode cX14_challenge 113 = .ok (.aload 4, 2) := by decide +kernel
theorem dX14_challenge_115 : decode cX14_challenge 115 = .ok (.ldc 176, 2) := by decide +kernel
theorem dX14_challenge_117 : decode cX14_challenge 117 = .ok (.invokevirtual 150, 3) := by decide +kernel
theorem dX14_challenge_120 : decode cX14_challenge 120 = .ok (.pop, 1) := by decide +kernel
theorem dX14_challenge_121 : decode cX14_challenge 121 = .ok (.aload_n 0, 1) := by decide +kernel
theorem dX14_challenge_122 : decode cX14_challenge 122 = .ok (.getfield 58, 3) := by decide +kernel
theorem dX14_challenge_125 : decode cX14_challenge 125 = .ok (.aload_n 3, 1) := by decide +kernel
theorem dX14_challenge_126 : decode cX14_challenge 126 = .ok (.invokevirtual 167, 3) := by decide +kernel
theorem dX14_challenge_129 : decode cX14_challenge 129 = .ok (.return_, 1) := by decide +kernel
abbrev cX14_answers : ByteArray := prog_10_method_7_code
def yX14_answers : MethodName := ⟨RX14, "answers", "(I)I"⟩
theorem dX14_answers_0 : decode cX14_answers 0 = .ok (.bipush 49, 2) := by decide +kernel
theorem dX14_answers_2 : decode cX14_answers 2 = .ok (.iload_n 1, 1) := by decide +kernel
theorem dX14_answers_3 : decode cX14_answers 3 = .ok (.imul, 1) := by decide +kernel
theorem dX14_answers_4 : decode cX14_answers 4 = .ok (.bipush 96, 2) := by decide +kernel
theorem dX14_answers_6 : decode cX14_answers 6 = .ok (.iadd, 1) := by decide +kernel
theorem dX14_answers_7 : decode cX14_answers 7 = .ok (.ireturn, 1) := by decide +kernel
abbrev cX14_proved : ByteArray := prog_10_method_4_code
def yX14_proved : MethodName := ⟨RX14, "proved", "()I"⟩
theorem dX14_proved_0 : decode cX14_proved 0 = .ok (.bipush 48, 2) := by decide +kernel
theorem dX14_proved_2 : decode cX14_proved 2 = .ok (.ireturn, 1) := by decide +kernel
abbrev cX14_isRight : ByteArray := prog_10_method_19_code
def yX14_isRight : MethodName := ⟨RX14, "isRight", "([BI[BI)Z"⟩
theorem dX14_isRight_0 : decode cX14_isRight 0 = .ok (.aload_n 0, 1) := by decide +kernel
theorem dX14_isRight_1 : decode cX14_isRight 1 = .ok (.aload_n 1, 1) := by decide +kernel
theorem dX14_isRight_2 : decode cX14_isRight 2 = .ok (.iload_n 2, 1) := by decide +kernel
theorem dX14_isRight_3 : decode cX14_isRight 3 = .ok (.aload_n 0, 1) := by decide +kernel
theorem dX14_isRight_4 : decode cX14_isRight 4 = .ok (.getfield 42, 3) := by decide +kernel
theorem dX14_isRight_7 : decode cX14_isRight 7 = .ok (.invokevirtual 126, 3) := by decide +kernel
theorem dX14_isRight_10 : decode cX14_isRight 10 = .ok (.aload_n 0, 1) := by decide +kernel
theorem dX14_isRight_11 : decode cX14_isRight 11 = .ok (.getfield 58, 3) := by decide +kernel
theorem dX14_isRight_14 : decode cX14_isRight 14 = .ok (.aload_n 0, 1) := by decide +kernel
theorem dX14_isRight_15 : decode cX14_isRight 15 = .ok (.getfield 9, 3) := by decide +kernel
theorem dX14_isRight_18 : decode cX14_isRight 18 = .ok (.aload_n 0, 1) := by decide +kernel
theorem dX14_isRight_19 : decode cX14_isRight 19 = .ok (.getfield 42, 3) := by decide +kernel
theorem dX14_isRight_22 : decode cX14_isRight 22 = .ok (.aload_n 0, 1) := by decide +kernel
theorem dX14_isRight_23 : decode cX14_isRight 23 = .ok (.getfield 52, 3) := by decide +kernel
theorem dX14_isRight_26 : decode cX14_isRight 26 = .ok (.invokevirtual 81, 3) := by decide +kernel
theorem dX14_isRight_29 : decode cX14_isRight 29 = .ok (.aload_n 0, 1) := by decide +kernel
theorem dX14_isRight_30 : decode cX14_isRight 30 = .ok (.aload_n 0, 1) := by decide +kernel
theorem dX14_isRight_31 : decode cX14_isRight 31 = .ok (.getfield 52, 3) := by decide +kernel
theorem dX14_isRight_34 : decode cX14_isRight 34 = .ok (.aload_n 0, 1) := by decide +kernel
theorem dX14_isRight_35 : decode cX14_isRight 35 = .ok (.getfield 34, 3) := by decide +kernel
theorem dX14_isRight_38 : decode cX14_isRight 38 = .ok (.iconst 0, 1) := by decide +kernel
theorem dX14_isRight_39 : decode cX14_isRight 39 = .ok (.invokevirtual 129, 3) := by decide +kernel
theorem dX14_isRight_42 : decode cX14_isRight 42 = .ok (.aload_n 0, 1) := by decide +kernel
theorem dX14_isRight_43 : decode cX14_isRight 43 = .ok (.aload_n 1, 1) := by decide +kernel
theorem dX14_isRight_44 : decode cX14_isRight 44 = .ok (.iload_n 2, 1) := by decide +kernel
theorem dX14_isRight_45 : decode cX14_isRight 45 = .ok (.aload_n 0, 1) := by decide +kernel
theorem dX14_isRight_46 : decode cX14_isRight 46 = .ok (.getfield 28, 3) := by decide +kernel
theorem dX14_isRight_49 : decode cX14_isRight 49 = .ok (.iconst 0, 1) := by decide +kernel
theorem dX14_isRight_50 : decode cX14_isRight 50 = .ok (.invokevirtual 219, 3) := by decide +kernel
theorem dX14_isRight_53 : decode cX14_isRight 53 = .ok (.iconst 1, 1) := by decide +kernel
theorem dX14_isRight_54 : decode cX14_isRight 54 = .ok (.istore 5, 2) := by decide +kernel
theorem dX14_isRight_56 : decode cX14_isRight 56 = .ok (.iconst 0, 1) := by decide +kernel
theorem dX14_isRight_57 : decode cX14_isRight 57 = .ok (.istore 6, 2) := by decide +kernel
theorem dX14_isRight_59 : decode cX14_isRight 59 = .ok (.iload 6, 2) := by decide +kernel
theorem dX14_isRight_61 : decode cX14_isRight 61 = .ok (.bipush 48, 2) := by decide +kernel
theorem dX14_isRight_63 : decode cX14_isRight 63 = .ok (.if_icmp .ge 38, 3) := by decide +kernel
theorem dX14_isRight_66 : decode cX14_isRight 66 = .ok (.iload 5, 2) := by decide +kernel
theorem dX14_isRight_68 : decode cX14_isRight 68 = .ok (.ifCond .eq 24, 3) := by decide +kernel
theorem dX14_isRight_71 : decode cX14_isRight 71 = .ok (.aload_n 0, 1) := by decide +kernel
theorem dX14_isRight_72 : decode cX14_isRight 72 = .ok (.getfield 28, 3) := by decide +kernel
theorem dX14_isRight_75 : decode cX14_isRight 75 = .ok (.iload 6, 2) := by decide +kernel
theorem dX14_isRight_77 : decode cX14_isRight 77 = .ok (.baload, 1) := by decide +kernel
theorem dX14_isRight_78 : decode cX14_isRight 78 = .ok (.aload_n 3, 1) := by decide +kernel
theorem dX14_isRight_79 : decode cX14_isRight 79 = .ok (.iload 4, 2) := by decide +kernel
theorem dX14_isRight_81 : decode cX14_isRight 81 = .ok (.iload 6, 2) := by decide +kernel
theorem dX14_isRight_83 : decode cX14_isRight 83 = .ok (.iadd, 1) := by decide +kernel
theorem dX14_isRight_84 : decode cX14_isRight 84 = .ok (.baload, 1) := by decide +kernel
theorem dX14_isRight_85 : decode cX14_isRight 85 = .ok (.if_icmp .ne 7, 3) := by decide +kernel
theorem dX14_isRight_88 : decode cX14_isRight 88 = .ok (.iconst 1, 1) := by decide +kernel
theorem dX14_isRight_89 : decode cX14_isRight 89 = .ok (.goto 4, 3) := by decide +kernel
theorem dX14_isRight_92 : decode cX14_isRight 92 = .ok (.iconst 0, 1) := by decide +kernel
theorem dX14_isRight_93 : decode cX14_isRight 93 = .ok (.istore 5, 2) := by decide +kernel
theorem dX14_isRight_95 : decode cX14_isRight 95 = .ok (.iinc 6 1, 3) := by decide +kernel
theorem dX14_isRight_98 : decode cX14_isRight 98 = .ok (.goto (-39), 3) := by decide +kernel
theorem dX14_isRight_101 : decode cX14_isRight 101 = .ok (.iload 5, 2) := by decide +kernel
theorem dX14_isRight_103 : decode cX14_isRight 103 = .ok (.ireturn, 1) := by decide +kernel
abbrev cX14_output : ByteArray := prog_10_method_18_code
def yX14_output : MethodName := ⟨RX14, "output", "([BI[BI)V"⟩
theorem dX14_output_0 : decode cX14_output 0 = .ok (.aload_n 0, 1) := by decide +kernel
theorem dX14_output_1 : decode cX14_output 1 = .ok (.getfield 58, 3) := by decide +kernel
theorem dX14_output_4 : decode cX14_output 4 = .ok (.getfield 137, 3) := by decide +kernel
theorem dX14_output_7 : decode cX14_output 7 = .ok (.invokevirtual 141, 3) := by decide +kernel
theorem dX14_output_10 : decode cX14_output 10 = .ok (.astore 5, 2) := by decide +kernel
theorem dX14_output_12 : decode cX14_output 12 = .ok (.aload 5, 2) := by decide +kernel
theorem dX14_output_14 : decode cX14_output 14 = .ok (.bipush 98, 2) := by decide +kernel
theorem dX14_output_16 : decode cX14_output 16 = .ok (.invokevirtual 144, 3) := by decide +kernel
theorem dX14_output_19 : decode cX14_output 19 = .ok (.aload_n 1, 1) := by decide +kernel
theorem dX14_output_20 : decode cX14_output 20 = .ok (.iload_n 2, 1) := by decide +kernel
theorem dX14_output_21 : decode cX14_output 21 = .ok (.bipush 98, 2) := by decide +kernel
theorem dX14_output_23 : decode cX14_output 23 = .ok (.invokevirtual 113, 3) := by decide +kernel
theorem dX14_output_26 : decode cX14_output 26 = .ok (.bipush 49, 2) := by decide +kernel
theorem dX14_output_28 : decode cX14_output 28 = .ok (.invokevirtual 144, 3) := by decide +kernel
theorem dX14_output_31 : decode cX14_output 31 = .ok (.aload_n 0, 1) := by decide +kernel
theorem dX14_output_32 : decode cX14_output 32 = .ok (.getfield 34, 3) := by decide +kernel
theorem dX14_output_35 : decode cX14_output 35 = .ok (.iconst 0, 1) := by decide +kernel
theorem dX14_output_36 : decode cX14_output 36 = .ok (.bipush 49, 2) := by decide +kernel
theorem dX14_output_38 : decode cX14_output 38 = .ok (.invokevirtual 113, 3) := by decide +kernel
theorem dX14_output_41 : decode cX14_output 41 = .ok (.ldc 223, 2) := by decide +kernel
theorem dX14_output_43 : decode cX14_output 43 = .ok (.invokevirtual 150, 3) := by decide +kernel
theorem dX14_output_46 : decode cX14_output 46 = .ok (.pop, 1) := by decide +kernel
theorem dX14_output_47 : decode cX14_output 47 = .ok (.aload 5, 2) := by decide +kernel
theorem dX14_output_49 : decode cX14_output 49 = .ok (.invokevirtual 158, 3) := by decide +kernel
theorem dX14_output_52 : decode cX14_output 52 = .ok (.iconst 0, 1) := by decide +kernel
theorem dX14_output_53 : decode cX14_output 53 = .ok (.aload_n 3, 1) := by decide +kernel
theorem dX14_output_54 : decode cX14_output 54 = .ok (.iload 4, 2) := by decide +kernel
theorem dX14_output_56 : decode cX14_output 56 = .ok (.bipush 48, 2) := by decide +kernel
theorem dX14_output_58 : decode cX14_output 58 = .ok (.invokestatic 103, 3) := by decide +kernel
theorem dX14_output_61 : decode cX14_output 61 = .ok (.return_, 1) := by decide +kernel
abbrev cX14_finishes : ByteArray := prog_10_method_17_code
def yX14_finishes : MethodName := ⟨RX14, "finishes", "([LVeilMint$Asking;II[B[B)V"⟩
theorem dX14_finishes_0 : decode cX14_finishes 0 = .ok (.bipush 49, 2) := by decide +kernel
theorem dX14_finishes_2 : decode cX14_finishes 2 = .ok (.iload_n 3, 1) := by decide +kernel
theorem dX14_finishes_3 : decode cX14_finishes 3 = .ok (.imul, 1) := by decide +kernel
theorem dX14_finishes_4 : decode cX14_finishes 4 = .ok (.newarray .byte, 2) := by decide +kernel
theorem dX14_finishes_6 : decode cX14_finishes 6 = .ok (.astore 6, 2) := by decide +kernel
theorem dX14_finishes_8 : decode cX14_finishes 8 = .ok (.iconst 0, 1) := by decide +kernel
theorem dX14_finishes_9 : decode cX14_finishes 9 = .ok (.istore 7, 2) := by decide +kernel
theorem dX14_finishes_11 : decode cX14_finishes 11 = .ok (.iload 7, 2) := by decide +kernel
theorem dX14_finishes_13 : decode cX14_finishes 13 = .ok (.iload_n 3, 1) := by decide +kernel
theorem dX14_finishes_14 : decode cX14_finishes 14 = .ok (.if_icmp .ge 81, 3) := by decide +kernel
theorem dX14_finishes_17 : decode cX14_finishes 17 = .ok (.aload_n 0, 1) := by decide +kernel
theorem dX14_finishes_18 : decode cX14_finishes 18 = .ok (.aload_n 1, 1) := by decide +kernel
theorem dX14_finishes_19 : decode cX14_finishes 19 = .ok (.iload_n 2, 1) := by decide +kernel
theorem dX14_finishes_20 : decode cX14_finishes 20 = .ok (.iload 7, 2) := by decide +kernel
theorem dX14_finishes_22 : decode cX14_finishes 22 = .ok (.iadd, 1) := by decide +kernel
theorem dX14_finishes_23 : decode cX14_finishes 23 = .ok (.aaload, 1) := by decide +kernel
theorem dX14_finishes_24 : decode cX14_finishes 24 = .ok (.getfield 200, 3) := by decide +kernel
theorem dX14_finishes_27 : decode cX14_finishes 27 = .ok (.iconst 0, 1) := by decide +kernel
theorem dX14_finishes_28 : decode cX14_finishes 28 = .ok (.aload_n 0, 1) := by decide +kernel
theorem dX14_finishes_29 : decode cX14_finishes 29 = .ok (.getfield 42, 3) := by decide +kernel
theorem dX14_finishes_32 : decode cX14_finishes 32 = .ok (.invokevirtual 126, 3) := by decide +kernel
theorem dX14_finishes_35 : decode cX14_finishes 35 = .ok (.aload_n 0, 1) := by decide +kernel
theorem dX14_finishes_36 : decode cX14_finishes 36 = .ok (.getfield 58, 3) := by decide +kernel
theorem dX14_finishes_39 : decode cX14_finishes 39 = .ok (.aload_n 1, 1) := by decide +kernel
theorem dX14_finishes_40 : decode cX14_finishes 40 = .ok (.iload_n 2, 1) := by decide +kernel
theorem dX14_finishes_41 : decode cX14_finishes 41 = .ok (.iload 7, 2) := by decide +kernel
theorem dX14_finishes_43 : decode cX14_finishes 43 = .ok (.iadd, 1) := by decide +kernel
theorem dX14_finishes_44 : decode cX14_finishes 44 = .ok (.aaload, 1) := by decide +kernel
theorem dX14_finishes_45 : decode cX14_finishes 45 = .ok (.getfield 205, 3) := by decide +kernel
theorem dX14_finishes_48 : decode cX14_finishes 48 = .ok (.aload_n 0, 1) := by decide +kernel
theorem dX14_finishes_49 : decode cX14_finishes 49 = .ok (.getfield 42, 3) := by decide +kernel
theorem dX14_finishes_52 : decode cX14_finishes 52 = .ok (.aload_n 0, 1) := by decide +kernel
theorem dX14_finishes_53 : decode cX14_finishes 53 = .ok (.getfield 52, 3) := by decide +kernel
theorem dX14_finishes_56 : decode cX14_finishes 56 = .ok (.invokevirtual 81, 3) := by decide +kernel
theorem dX14_finishes_59 : decode cX14_finishes 59 = .ok (.aload_n 0, 1) := by decide +kernel
theorem dX14_finishes_60 : decode cX14_finishes 60 = .ok (.aload_n 0, 1) := by decide +kernel
theorem dX14_finishes_61 : decode cX14_finishes 61 = .ok (.getfield 52, 3) := by decide +kernel
theorem dX14_finishes_64 : decode cX14_finishes 64 = .ok (.aload 6, 2) := by decide +kernel
theorem dX14_finishes_66 : decode cX14_finishes 66 = .ok (.bipush 49, 2) := by decide +kernel
theorem dX14_finishes_68 : decode cX14_finishes 68 = .ok (.iload 7, 2) := by decide +kernel
theorem dX14_finishes_70 : decode cX14_finishes 70 = .ok (.imul, 1) := by decide +kernel
theorem dX14_finishes_71 : decode cX14_finishes 71 = .ok (.invokevirtual 129, 3) := by decide +kernel
theorem dX14_finishes_74 : decode cX14_finishes 74 = .ok (.aload_n 0, 1) := by decide +kernel
theorem dX14_finishes_75 : decode cX14_finishes 75 = .ok (.aload 4, 2) := by decide +kernel
theorem dX14_finishes_77 : decode cX14_finishes 77 = .ok (.bipush 49, 2) := by decide +kernel
theorem dX14_finishes_79 : decode cX14_finishes 79 = .ok (.iload 7, 2) := by decide +kernel
theorem dX14_finishes_81 : decode cX14_finishes 81 = .ok (.imul, 1) := by decide +kernel
theorem dX14_finishes_82 : decode cX14_finishes 82 = .ok (.aload_n 0, 1) := by decide +kernel
theorem dX14_finishes_83 : decode cX14_finishes 83 = .ok (.getfield 42, 3) := by decide +kernel
theorem dX14_finishes_86 : decode cX14_finishes 86 = .ok (.invokevirtual 170, 3) := by decide +kernel
theorem dX14_finishes_89 : decode cX14_finishes 89 = .ok (.iinc 7 1, 3) := by decide +kernel
theorem dX14_finishes_92 : decode cX14_finishes 92 = .ok (.goto (-81), 3) := by decide +kernel
theorem dX14_finishes_95 : decode cX14_finishes 95 = .ok (.bipush 49, 2) := by decide +kernel
theorem dX14_finishes_97 : decode cX14_finishes 97 = .ok (.iload_n 3, 1) := by decide +kernel
theorem dX14_finishes_98 : decode cX14_finishes 98 = .ok (.imul, 1) := by decide +kernel
theorem dX14_finishes_99 : decode cX14_finishes 99 = .ok (.istore 7, 2) := by decide +kernel
theorem dX14_finishes_101 : decode cX14_finishes 101 = .ok (.bipush 12, 2) := by decide +kernel
theorem dX14_finishes_103 : decode cX14_finishes 103 = .ok (.newarray .int, 2) := by decide +kernel
theorem dX14_finishes_105 : decode cX14_finishes 105 = .ok (.astore 8, 2) := by decide +kernel
theorem dX14_finishes_107 : decode cX14_finishes 107 = .ok (.bipush 12, 2) := by decide +kernel
theorem dX14_finishes_109 : decode cX14_finishes 109 = .ok (.newarray .int, 2) := by decide +kernel
theorem dX14_finishes_111 : decode cX14_finishes 111 = .ok (.astore 9, 2) := by decide +kernel
theorem dX14_finishes_113 : decode cX14_finishes 113 = .ok (.aload_n 0, 1) := by decide +kernel
theorem dX14_finishes_114 : decode cX14_finishes 114 = .ok (.getfield 58, 3) := by decide +kernel
theorem dX14_finishes_117 : decode cX14_finishes 117 = .ok (.getfield 89, 3) := by decide +kernel
theorem dX14_finishes_120 : decode cX14_finishes 120 = .ok (.aload 4, 2) := by decide +kernel
theorem dX14_finishes_122 : decode cX14_finishes 122 = .ok (.iload 7, 2) := by decide +kernel
theorem dX14_finishes_124 : decode cX14_finishes 124 = .ok (.bipush 48, 2) := by decide +kernel
theorem dX14_finishes_126 : decode cX14_finishes 126 = .ok (.aload 8, 2) := by decide +kernel
theorem dX14_finishes_128 : decode cX14_finishes 128 = .ok (.invokevirtual 93, 3) := by decide +kernel
theorem dX14_finishes_131 : decode cX14_finishes 131 = .ok (.ifCond .eq 27, 3) := by decide +kernel
theorem dX14_finishes_134 : decode cX14_finishes 134 = .ok (.aload_n 0, 1) := by decide +kernel
theorem dX14_finishes_135 : decode cX14_finishes 135 = .ok (.getfield 58, 3) := by decide +kernel
theorem dX14_finishes_138 : decode cX14_finishes 138 = .ok (.getfield 89, 3) := by decide +kernel
theorem dX14_finishes_141 : decode cX14_finishes 141 = .ok (.aload 4, 2) := by decide +kernel
theorem dX14_finishes_143 : decode cX14_finishes 143 = .ok (.iload 7, 2) := by decide +kernel
theorem dX14_finishes_145 : decode cX14_finishes 145 = .ok (.bipush 48, 2) := by decide +kernel
theorem dX14_finishes_147 : decode cX14_finishes 147 = .ok (.iadd, 1) := by decide +kernel
theorem dX14_finishes_148 : decode cX14_finishes 148 = .ok (.bipush 48, 2) := by decide +kernel
theorem dX14_finishes_150 : decode cX14_finishes 150 = .ok (.aload 9, 2) := by decide +kernel
theorem dX14_finishes_152 : decode cX14_finishes 152 = .ok (.invokevirtual 93, 3) := by decide +kernel
theorem dX14_finishes_155 : decode cX14_finishes 155 = .ok (.ifCond .ne 13, 3) := by decide +kernel
theorem dX14_finishes_158 : decode cX14_finishes 158 = .ok (.aload_n 0, 1) := by decide +kernel
theorem dX14_finishes_159 : decode cX14_finishes 159 = .ok (.getfield 62, 3) := by decide +kernel
theorem dX14_finishes_162 : decode cX14_finishes 162 = .ok (.bipush (-4), 2) := by decide +kernel
theorem dX14_finishes_164 : decode cX14_finishes 164 = .ok (.invokevirtual 70, 3) := by decide +kernel
theorem dX14_finishes_167 : decode cX14_finishes 167 = .ok (.athrow, 1) := by decide +kernel
theorem dX14_finishes_168 : decode cX14_finishes 168 = .ok (.aload_n 0, 1) := by decide +kernel
theorem dX14_finishes_169 : decode cX14_finishes 169 = .ok (.aload 6, 2) := by decide +kernel
theorem dX14_finishes_171 : decode cX14_finishes 171 = .ok (.iconst 0, 1) := by decide +kernel
theorem dX14_finishes_172 : decode cX14_finishes 172 = .ok (.aload 4, 2) := by decide +kernel
theorem dX14_finishes_174 : decode cX14_finishes 174 = .ok (.iconst 0, 1) := by decide +kernel
theorem dX14_finishes_175 : decode cX14_finishes 175 = .ok (.iload_n 3, 1) := by decide +kernel
theorem dX14_finishes_176 : decode cX14_finishes 176 = .ok (.iconst 0, 1) := by decide +kernel
theorem dX14_finishes_177 : decode cX14_finishes 177 = .ok (.invokevirtual 178, 3) := by decide +kernel
theorem dX14_finishes_180 : decode cX14_finishes 180 = .ok (.aload_n 0, 1) := by decide +kernel
theorem dX14_finishes_181 : decode cX14_finishes 181 = .ok (.aload_n 0, 1) := by decide +kernel
theorem dX14_finishes_182 : decode cX14_finishes 182 = .ok (.getfield 24, 3) := by decide +kernel
theorem dX14_finishes_185 : decode cX14_finishes 185 = .ok (.iconst 0, 1) := by decide +kernel
theorem dX14_finishes_186 : decode cX14_finishes 186 = .ok (.aload_n 0, 1) := by decide +kernel
theorem dX14_finishes_187 : decode cX14_finishes 187 = .ok (.getfield 42, 3) := by decide +kernel
theorem dX14_finishes_190 : decode cX14_finishes 190 = .ok (.invokevirtual 170, 3) := by decide +kernel
theorem dX14_finishes_193 : decode cX14_finishes 193 = .ok (.aload_n 0, 1) := by decide +kernel
theorem dX14_finishes_194 : decode cX14_finishes 194 = .ok (.getfield 58, 3) := by decide +kernel
theorem dX14_finishes_197 : decode cX14_finishes 197 = .ok (.aload 9, 2) := by decide +kernel
theorem dX14_finishes_199 : decode cX14_finishes 199 = .ok (.aload_n 0, 1) := by decide +kernel
theorem dX14_finishes_200 : decode cX14_finishes 200 = .ok (.getfield 58, 3) := by decide +kernel
theorem dX14_finishes_203 : decode cX14_finishes 203 = .ok (.getfield 76, 3) := by decide +kernel
theorem dX14_finishes_206 : decode cX14_finishes 206 = .ok (.aload_n 0, 1) := by decide +kernel
theorem dX14_finishes_207 : decode cX14_finishes 207 = .ok (.getfield 52, 3) := by decide +kernel
theorem dX14_finishes_210 : decode cX14_finishes 210 = .ok (.invokevirtual 81, 3) := by decide +kernel
theorem dX14_finishes_213 : decode cX14_finishes 213 = .ok (.aload_n 0, 1) := by decide +kernel
theorem dX14_finishes_214 : decode cX14_finishes 214 = .ok (.getfield 58, 3) := by decide +kernel
theorem dX14_finishes_217 : decode cX14_finishes 217 = .ok (.aload 8, 2) := by decide +kernel
theorem dX14_finishes_219 : decode cX14_finishes 219 = .ok (.aload_n 0, 1) := by decide +kernel
theorem dX14_finishes_220 : decode cX14_finishes 220 = .ok (.getfield 42, 3) := by decide +kernel
theorem dX14_finishes_223 : decode cX14_finishes 223 = .ok (.aload_n 0, 1) := by decide +kernel
theorem dX14_finishes_224 : decode cX14_finishes 224 = .ok (.getfield 55, 3) := by decide +kernel
theorem dX14_finishes_227 : decode cX14_finishes 227 = .ok (.invokevirtual 81, 3) := by decide +kernel
theorem dX14_finishes_230 : decode cX14_finishes 230 = .ok (.aload_n 0, 1) := by decide +kernel
theorem dX14_finishes_231 : decode cX14_finishes 231 = .ok (.getfield 58, 3) := by decide +kernel
theorem dX14_finishes_234 : decode cX14_finishes 234 = .ok (.aload_n 0, 1) := by decide +kernel
theorem dX14_finishes_235 : decode cX14_finishes 235 = .ok (.getfield 52, 3) := by decide +kernel
theorem dX14_finishes_238 : decode cX14_finishes 238 = .ok (.aload_n 0, 1) := by decide +kernel
theorem dX14_finishes_239 : decode cX14_finishes 239 = .ok (.getfield 55, 3) := by decide +kernel
theorem dX14_finishes_242 : decode cX14_finishes 242 = .ok (.invokevirtual 172, 3) := by decide +kernel
theorem dX14_finishes_245 : decode cX14_finishes 245 = .ok (.new 37, 3) := by decide +kernel
theorem dX14_finishes_248 : decode cX14_finishes 248 = .ok (.dup, 1) := by decide +kernel
theorem dX14_finishes_249 : decode cX14_finishes 249 = .ok (.invokespecial 39, 3) := by decide +kernel
theorem dX14_finishes_252 : decode cX14_finishes 252 = .ok (.astore 10, 2) := by decide +kernel
theorem dX14_finishes_254 : decode cX14_finishes 254 = .ok (.aload 10, 2) := by decide +kernel
theorem dX14_finishes_256 : decode cX14_finishes 256 = .ok (.aload_n 0, 1) := by decide +kernel
theorem dX14_finishes_257 : decode cX14_finishes 257 = .ok (.getfield 52, 3) := by decide +kernel
theorem dX14_finishes_260 : decode cX14_finishes 260 = .ok (.invokevirtual 208, 3) := by decide +kernel
theorem dX14_finishes_263 : decode cX14_finishes 263 = .ok (.aload_n 0, 1) := by decide +kernel
theorem dX14_finishes_264 : decode cX14_finishes 264 = .ok (.getfield 58, 3) := by decide +kernel
theorem dX14_finishes_267 : decode cX14_finishes 267 = .ok (.aload 9, 2) := by decide +kernel
theorem dX14_finishes_269 : decode cX14_finishes 269 = .ok (.aload_n 0, 1) := by decide +kernel
theorem dX14_finishes_270 : decode cX14_finishes 270 = .ok (.getfield 46, 3) := by decide +kernel
theorem dX14_finishes_273 : decode cX14_finishes 273 = .ok (.aload_n 0, 1) := by decide +kernel
theorem dX14_finishes_274 : decode cX14_finishes 274 = .ok (.getfield 52, 3) := by decide +kernel
theorem dX14_finishes_277 : decode cX14_finishes 277 = .ok (.invokevirtual 81, 3) := by decide +kernel
theorem dX14_finishes_280 : decode cX14_finishes 280 = .ok (.aload_n 0, 1) := by decide +kernel
theorem dX14_finishes_281 : decode cX14_finishes 281 = .ok (.getfield 58, 3) := by decide +kernel
theorem dX14_finishes_284 : decode cX14_finishes 284 = .ok (.aload 8, 2) := by decide +kernel
theorem dX14_finishes_286 : decode cX14_finishes 286 = .ok (.aload_n 0, 1) := by decide +kernel
theorem dX14_finishes_287 : decode cX14_finishes 287 = .ok (.getfield 49, 3) := by decide +kernel
theorem dX14_finishes_290 : decode cX14_finishes 290 = .ok (.aload_n 0, 1) := by decide +kernel
theorem dX14_finishes_291 : decode cX14_finishes 291 = .ok (.getfield 55, 3) := by decide +kernel
theorem dX14_finishes_294 : decode cX14_finishes 294 = .ok (.invokevirtual 81, 3) := by decide +kernel
theorem dX14_finishes_297 : decode cX14_finishes 297 = .ok (.aload_n 0, 1) := by decide +kernel
theorem dX14_finishes_298 : decode cX14_finishes 298 = .ok (.getfield 58, 3) := by decide +kernel
theorem dX14_finishes_301 : decode cX14_finishes 301 = .ok (.aload_n 0, 1) := by decide +kernel
theorem dX14_finishes_302 : decode cX14_finishes 302 = .ok (.getfield 52, 3) := by decide +kernel
theorem dX14_finishes_305 : decode cX14_finishes 305 = .ok (.aload_n 0, 1) := by decide +kernel
theorem dX14_finishes_306 : decode cX14_finishes 306 = .ok (.getfield 55, 3) := by decide +kernel
theorem dX14_finishes_309 : decode cX14_finishes 309 = .ok (.invokevirtual 172, 3) := by decide +kernel
theorem dX14_finishes_312 : decode cX14_finishes 312 = .ok (.aload_n 0, 1) := by decide +kernel
theorem dX14_finishes_313 : decode cX14_finishes 313 = .ok (.aload 10, 2) := by decide +kernel
theorem dX14_finishes_315 : decode cX14_finishes 315 = .ok (.aload_n 0, 1) := by decide +kernel
theorem dX14_finishes_316 : decode cX14_finishes 316 = .ok (.getfield 52, 3) := by decide +kernel
theorem dX14_finishes_319 : decode cX14_finishes 319 = .ok (.aload_n 0, 1) := by decide +kernel
theorem dX14_finishes_320 : decode cX14_finishes 320 = .ok (.getfield 18, 3) := by decide +kernel
theorem dX14_finishes_323 : decode cX14_finishes 323 = .ok (.invokevirtual 182, 3) := by decide +kernel
theorem dX14_finishes_326 : decode cX14_finishes 326 = .ok (.aload_n 0, 1) := by decide +kernel
theorem dX14_finishes_327 : decode cX14_finishes 327 = .ok (.getfield 18, 3) := by decide +kernel
theorem dX14_finishes_330 : decode cX14_finishes 330 = .ok (.aload 8, 2) := by decide +kernel
theorem dX14_finishes_332 : decode cX14_finishes 332 = .ok (.invokestatic 211, 3) := by decide +kernel
theorem dX14_finishes_335 : decode cX14_finishes 335 = .ok (.ifCond .eq 13, 3) := by decide +kernel
theorem dX14_finishes_338 : decode cX14_finishes 338 = .ok (.aload_n 0, 1) := by decide +kernel
theorem dX14_finishes_339 : decode cX14_finishes 339 = .ok (.getfield 62, 3) := by decide +kernel
theorem dX14_finishes_342 : decode cX14_finishes 342 = .ok (.bipush (-4), 2) := by decide +kernel
theorem dX14_finishes_344 : decode cX14_finishes 344 = .ok (.invokevirtual 70, 3) := by decide +kernel
theorem dX14_finishes_347 : decode cX14_finishes 347 = .ok (.athrow, 1) := by decide +kernel
theorem dX14_finishes_348 : decode cX14_finishes 348 = .ok (.iconst 0, 1) := by decide +kernel
theorem dX14_finishes_349 : decode cX14_finishes 349 = .ok (.istore 11, 2) := by decide +kernel
theorem dX14_finishes_351 : decode cX14_finishes 351 = .ok (.iload 11, 2) := by decide +kernel
theorem dX14_finishes_353 : decode cX14_finishes 353 = .ok (.iload_n 3, 1) := by decide +kernel
theorem dX14_finishes_354 : decode cX14_finishes 354 = .ok (.if_icmp .ge 125, 3) := by decide +kernel
theorem dX14_finishes_357 : decode cX14_finishes 357 = .ok (.aload_n 1, 1) := by decide +kernel
theorem dX14_finishes_358 : decode cX14_finishes 358 = .ok (.iload_n 2, 1) := by decide +kernel
theorem dX14_finishes_359 : decode cX14_finishes 359 = .ok (.iload 11, 2) := by decide +kernel
theorem dX14_finishes_361 : decode cX14_finishes 361 = .ok (.iadd, 1) := by decide +kernel
theorem dX14_finishes_362 : decode cX14_finishes 362 = .ok (.aaload, 1) := by decide +kernel
theorem dX14_finishes_363 : decode cX14_finishes 363 = .ok (.astore 12, 2) := by decide +kernel
theorem dX14_finishes_365 : decode cX14_finishes 365 = .ok (.aload_n 0, 1) := by decide +kernel
theorem dX14_finishes_366 : decode cX14_finishes 366 = .ok (.aload 4, 2) := by decide +kernel
theorem dX14_finishes_368 : decode cX14_finishes 368 = .ok (.bipush 49, 2) := by decide +kernel
theorem dX14_finishes_370 : decode cX14_finishes 370 = .ok (.iload 11, 2) := by decide +kernel
theorem dX14_finishes_372 : decode cX14_finishes 372 = .ok (.imul, 1) := by decide +kernel
theorem dX14_finishes_373 : decode cX14_finishes 373 = .ok (.aload_n 0, 1) := by decide +kernel
theorem dX14_finishes_374 : decode cX14_finishes 374 = .ok (.getfield 42, 3) := by decide +kernel
theorem dX14_finishes_377 : decode cX14_finishes 377 = .ok (.invokevirtual 170, 3) := by decide +kernel
theorem dX14_finishes_380 : decode cX14_finishes 380 = .ok (.aload_n 0, 1) := by decide +kernel
theorem dX14_finishes_381 : decode cX14_finishes 381 = .ok (.getfield 58, 3) := by decide +kernel
theorem dX14_finishes_384 : decode cX14_finishes 384 = .ok (.getfield 89, 3) := by decide +kernel
theorem dX14_finishes_387 : decode cX14_finishes 387 = .ok (.aload 12, 2) := by decide +kernel
theorem dX14_finishes_389 : decode cX14_finishes 389 = .ok (.getfield 205, 3) := by decide +kernel
theorem dX14_finishes_392 : decode cX14_finishes 392 = .ok (.aload_n 0, 1) := by decide +kernel
theorem dX14_finishes_393 : decode cX14_finishes 393 = .ok (.getfield 15, 3) := by decide +kernel
theorem dX14_finishes_396 : decode cX14_finishes 396 = .ok (.invokevirtual 215, 3) := by decide +kernel
theorem dX14_finishes_399 : decode cX14_finishes 399 = .ok (.istore 13, 2) := by decide +kernel
theorem dX14_finishes_401 : decode cX14_finishes 401 = .ok (.aload_n 0, 1) := by decide +kernel
theorem dX14_finishes_402 : decode cX14_finishes 402 = .ok (.getfield 58, 3) := by decide +kernel
theorem dX14_finishes_405 : decode cX14_finishes 405 = .ok (.aload_n 0, 1) := by decide +kernel
theorem dX14_finishes_406 : decode cX14_finishes 406 = .ok (.getfield 15, 3) := by decide +kernel
theorem dX14_finishes_409 : decode cX14_finishes 409 = .ok (.aload_n 0, 1) := by decide +kernel
theorem dX14_finishes_410 : decode cX14_finishes 410 = .ok (.getfield 42, 3) := by decide +kernel
theorem dX14_finishes_413 : decode cX14_finishes 413 = .ok (.aload_n 0, 1) := by decide +kernel
theorem dX14_finishes_414 : decode cX14_finishes 414 = .ok (.getfield 52, 3) := by decide +kernel
theorem dX14_finishes_417 : decode cX14_finishes 417 = .ok (.invokevirtual 81, 3) := by decide +kernel
theorem dX14_finishes_420 : decode cX14_finishes 420 = .ok (.aload_n 0, 1) := by decide +kernel
theorem dX14_finishes_421 : decode cX14_finishes 421 = .ok (.aload_n 0, 1) := by decide +kernel
theorem dX14_finishes_422 : decode cX14_finishes 422 = .ok (.getfield 52, 3) := by decide +kernel
theorem dX14_finishes_425 : decode cX14_finishes 425 = .ok (.aload_n 0, 1) := by decide +kernel
theorem dX14_finishes_426 : decode cX14_finishes 426 = .ok (.getfield 34, 3) := by decide +kernel
theorem dX14_finishes_429 : decode cX14_finishes 429 = .ok (.iconst 0, 1) := by decide +kernel
theorem dX14_finishes_430 : decode cX14_finishes 430 = .ok (.invokevirtual 129, 3) := by decide +kernel
theorem dX14_finishes_433 : decode cX14_finishes 433 = .ok (.sipush 146, 3) := by decide +kernel
theorem dX14_finishes_436 : decode cX14_finishes 436 = .ok (.iload 11, 2) := by decide +kernel
theorem dX14_finishes_438 : decode cX14_finishes 438 = .ok (.imul, 1) := by decide +kernel
theorem dX14_finishes_439 : decode cX14_finishes 439 = .ok (.istore 14, 2) := by decide +kernel
theorem dX14_finishes_441 : decode cX14_finishes 441 = .ok (.aload 12, 2) := by decide +kernel
theorem dX14_finishes_443 : decode cX14_finishes 443 = .ok (.getfield 200, 3) := by decide +kernel
theorem dX14_finishes_446 : decode cX14_finishes 446 = .ok (.iconst 0, 1) := by decide +kernel
theorem dX14_finishes_447 : decode cX14_finishes 447 = .ok (.aload 5, 2) := by decide +kernel
theorem dX14_finishes_449 : decode cX14_finishes 449 = .ok (.iload 14, 2) := by decide +kernel
theorem dX14_finishes_451 : decode cX14_finishes 451 = .ok (.bipush 98, 2) := by decide +kernel
theorem dX14_finishes_453 : decode cX14_finishes 453 = .ok (.invokestatic 103, 3) := by decide +kernel
theorem dX14_finishes_456 : decode cX14_finishes 456 = .ok (.aload_n 0, 1) := by decide +kernel
theorem dX14_finishes_457 : decode cX14_finishes 457 = .ok (.aload 12, 2) := by decide +kernel
theorem dX14_finishes_459 : decode cX14_finishes 459 = .ok (.getfield 200, 3) := by decide +kernel
theorem dX14_finishes_462 : decode cX14_finishes 462 = .ok (.iconst 0, 1) := by decide +kernel
theorem dX14_finishes_463 : decode cX14_finishes 463 = .ok (.aload 5, 2) := by decide +kernel
theorem dX14_finishes_465 : decode cX14_finishes 465 = .ok (.iload 14, 2) := by decide +kernel
theorem dX14_finishes_467 : decode cX14_finishes 467 = .ok (.bipush 98, 2) := by decide +kernel
theorem dX14_finishes_469 : decode cX14_finishes 469 = .ok (.iadd, 1) := by decide +kernel
theorem dX14_finishes_470 : decode cX14_finishes 470 = .ok (.invokevirtual 219, 3) := by decide +kernel
theorem dX14_finishes_473 : decode cX14_finishes 473 = .ok (.iinc 11 1, 3) := by decide +kernel
theorem dX14_finishes_476 : decode cX14_finishes 476 = .ok (.goto (-125), 3) := by decide +kernel
theorem dX14_finishes_479 : decode cX14_finishes 479 = .ok (.return_, 1) := by decide +kernel
theorem q120 : (Jvm.Cond.initialized "VeilMint$Oblivious") ∈ lw_all := lw_g (lw_at lw_m1 23 rfl) rfl
theorem q360 : (Jvm.Cond.fieldLinkNest "VeilMint$Oblivious" (89 : Nat) "VeilMint$Curve" "q" "LVeilMint$Modulus;" "VeilMint") ∈ lw_tbl := lw_at lw_m2 23 rfl
theorem q374 : (Jvm.Cond.fieldLinkNest "VeilMint$Oblivious" (76 : Nat) "VeilMint$Curve" "base" "LVeilMint$Point;" "VeilMint") ∈ lw_tbl := lw_at lw_m2 37 rfl
theorem q378 : (Jvm.Cond.fieldLinkNest "VeilMint$Oblivious" (137 : Nat) "VeilMint$Curve" "digest" "LVeilMint$Digest384;" "VeilMint") ∈ lw_tbl := lw_at lw_m2 41 rfl
theorem q604 : (Jvm.Cond.instantiable "VeilMint$Oblivious" (18 : Nat)) ∈ lw_all := lw_g (lw_at lw_m3 27 rfl) rfl
theorem q606 : (Jvm.Cond.instanceMethod ({ cls := "VeilMint$Oblivious", name := "<init>", desc := "(LVeilMint$Curve;LVeilMint$Refusal;[B)V" } : Jvm.MethodName)) ∈ lw_all := lw_g (lw_at lw_m3 29 rfl) rfl
theorem q607 : (Jvm.Cond.code ({ cls := "VeilMint$Oblivious", name := "<init>", desc := "(LVeilMint$Curve;LVeilMint$Refusal;[B)V" } : Jvm.MethodName) prog_10_method_1_code (5 : Nat) (Option.none : Option Jvm.ClassFile.FieldType)) ∈ lw_all := lw_g (lw_at lw_m3 30 rfl) rfl
theorem q608 : (Jvm.Cond.methodLink "VeilMint$Oblivious" (3 : Nat) ({ cls := "VeilMint$Key", name := "<init>", desc := "(I)V" } : Jvm.MethodName)) ∈ lw_all := lw_g (lw_at lw_m3 31 rfl) rfl
theorem q612 : (Jvm.Cond.classLink "VeilMint$Oblivious" (37 : Nat) "VeilMint$Point") ∈ lw_all := lw_g (lw_at lw_m3 35 rfl) rfl
theorem q613 : (Jvm.Cond.methodLinkNest "VeilMint$Oblivious" (39 : Nat) ({ cls := "VeilMint$Point", name := "<init>", desc := "()V" } : Jvm.MethodName) "VeilMint") ∈ lw_tbl := lw_at lw_m3 36 rfl
theorem q614 : (Jvm.Cond.methodLink "VeilMint$Oblivious" (66 : Nat) ({ cls := "VeilMint$Oblivious", name := "isSecret", desc := "([BI[I)Z" } : Jvm.MethodName)) ∈ lw_all := lw_g (lw_at lw_m3 37 rfl) rfl
theorem q615 : (Jvm.Cond.privateMethod ({ cls := "VeilMint$Oblivious", name := "isSecret", desc := "([BI[I)Z" } : Jvm.MethodName)) ∈ lw_tbl := lw_at lw_m3 38 rfl
theorem q616 : (Jvm.Cond.instanceMethod ({ cls := "VeilMint$Oblivious", name := "isSecret", desc := "([BI[I)Z" } : Jvm.MethodName)) ∈ lw_all := lw_g (lw_at lw_m3 39 rfl) rfl
theorem q617 : (Jvm.Cond.code ({ cls := "VeilMint$Oblivious", name := "isSecret", desc := "([BI[I)Z" } : Jvm.MethodName) prog_10_method_2_code (4 : Nat) (Option.some Jvm.ClassFile.FieldType.boolean)) ∈ lw_all := lw_g (lw_at lw_m3 40 rfl) rfl
theorem q618 : (Jvm.Cond.methodLink "VeilMint$Oblivious" (93 : Nat) ({ cls := "VeilMint$Modulus", name := "read", desc := "([BII[I)Z" } : Jvm.MethodName)) ∈ lw_all := lw_g (lw_at lw_m3 41 rfl) rfl
theorem q626 : (Jvm.Cond.methodLink "VeilMint$Oblivious" (99 : Nat) ({ cls := "VeilMint$Modulus", name := "isZero", desc := "([I)Z" } : Jvm.MethodName)) ∈ lw_all := lw_g (lw_at lw_m3 49 rfl) rfl
theorem q629 : (Jvm.Cond.methodLink "VeilMint$Oblivious" (70 : Nat) ({ cls := "VeilMint$Refusal", name := "as", desc := "(I)LVeilMint$Refusal;" } : Jvm.MethodName)) ∈ lw_all := lw_g (lw_at lw_m3 52 rfl) rfl
theorem q633 : (Jvm.Cond.methodLink "VeilMint$Oblivious" (81 : Nat) ({ cls := "VeilMint$Curve", name := "times", desc := "([ILVeilMint$Point;LVeilMint$Point;)V" } : Jvm.MethodName)) ∈ lw_all := lw_g (lw_at lw_m3 56 rfl) rfl
theorem q661 : (Jvm.Cond.methodLink "VeilMint$Oblivious" (85 : Nat) ({ cls := "VeilMint$Curve", name := "write", desc := "(LVeilMint$Point;[BI)Z" } : Jvm.MethodName)) ∈ lw_all := lw_g (lw_at lw_m3 84 rfl) rfl
theorem q683 : (Jvm.Cond.fieldLink "VeilMint$Oblivious" (58 : Nat) "VeilMint$Oblivious" "curve" "LVeilMint$Curve;") ∈ lw_all := lw_g (lw_at lw_m3 106 rfl) rfl
theorem q684 : (Jvm.Cond.fieldLink "VeilMint$Oblivious" (62 : Nat) "VeilMint$Oblivious" "refusal" "LVeilMint$Refusal;") ∈ lw_all := lw_g (lw_at lw_m3 107 rfl) rfl
theorem q685 : (Jvm.Cond.fieldLink "VeilMint$Oblivious" (9 : Nat) "VeilMint$Oblivious" "secret" "[I") ∈ lw_all := lw_g (lw_at lw_m3 108 rfl) rfl
theorem q686 : (Jvm.Cond.fieldLink "VeilMint$Oblivious" (15 : Nat) "VeilMint$Oblivious" "scalar" "[I") ∈ lw_all := lw_g (lw_at lw_m3 109 rfl) rfl
theorem q687 : (Jvm.Cond.fieldLink "VeilMint$Oblivious" (18 : Nat) "VeilMint$Oblivious" "sum" "[I") ∈ lw_all := lw_g (lw_at lw_m3 110 rfl) rfl
theorem q688 : (Jvm.Cond.fieldLink "VeilMint$Oblivious" (21 : Nat) "VeilMint$Oblivious" "other" "[I") ∈ lw_all := lw_g (lw_at lw_m3 111 rfl) rfl
theorem q689 : (Jvm.Cond.fieldLink "VeilMint$Oblivious" (24 : Nat) "VeilMint$Oblivious" "element" "[B") ∈ lw_all := lw_g (lw_at lw_m3 112 rfl) rfl
theorem q690 : (Jvm.Cond.fieldLink "VeilMint$Oblivious" (28 : Nat) "VeilMint$Oblivious" "seed" "[B") ∈ lw_all := lw_g (lw_at lw_m3 113 rfl) rfl
theorem q691 : (Jvm.Cond.fieldLink "VeilMint$Oblivious" (31 : Nat) "VeilMint$Oblivious" "five" "[B") ∈ lw_all := lw_g (lw_at lw_m3 114 rfl) rfl
theorem q692 : (Jvm.Cond.fieldLink "VeilMint$Oblivious" (34 : Nat) "VeilMint$Oblivious" "told" "[B") ∈ lw_all := lw_g (lw_at lw_m3 115 rfl) rfl
theorem q693 : (Jvm.Cond.fieldLink "VeilMint$Oblivious" (42 : Nat) "VeilMint$Oblivious" "point" "LVeilMint$Point;") ∈ lw_all := lw_g (lw_at lw_m3 116 rfl) rfl
theorem q694 : (Jvm.Cond.fieldLink "VeilMint$Oblivious" (46 : Nat) "VeilMint$Oblivious" "composite" "LVeilMint$Point;") ∈ lw_all := lw_g (lw_at lw_m3 117 rfl) rfl
theorem q695 : (Jvm.Cond.fieldLink "VeilMint$Oblivious" (49 : Nat) "VeilMint$Oblivious" "evaluated" "LVeilMint$Point;") ∈ lw_all := lw_g (lw_at lw_m3 118 rfl) rfl
theorem q696 : (Jvm.Cond.fieldLink "VeilMint$Oblivious" (52 : Nat) "VeilMint$Oblivious" "work" "LVeilMint$Point;") ∈ lw_all := lw_g (lw_at lw_m3 119 rfl) rfl
theorem q697 : (Jvm.Cond.fieldLink "VeilMint$Oblivious" (55 : Nat) "VeilMint$Oblivious" "more" "LVeilMint$Point;") ∈ lw_all := lw_g (lw_at lw_m3 120 rfl) rfl
theorem q704 : (Jvm.Cond.laysFinal "VeilMint$Oblivious" "VeilMint$Oblivious" "curve" "LVeilMint$Curve;") ∈ lw_all := lw_g (lw_at lw_m3 127 rfl) rfl
theorem q705 : (Jvm.Cond.soleField "VeilMint$Oblivious" "curve") ∈ lw_all := lw_g (lw_at lw_m3 128 rfl) rfl
theorem q706 : (Jvm.Cond.laysFinal "VeilMint$Oblivious" "VeilMint$Oblivious" "refusal" "LVeilMint$Refusal;") ∈ lw_all := lw_g (lw_at lw_m3 129 rfl) rfl
theorem q707 : (Jvm.Cond.soleField "VeilMint$Oblivious" "refusal") ∈ lw_all := lw_g (lw_at lw_m3 130 rfl) rfl
theorem q708 : (Jvm.Cond.laysFinal "VeilMint$Oblivious" "VeilMint$Oblivious" "secret" "[I") ∈ lw_all := lw_g (lw_at lw_m3 131 rfl) rfl
theorem q709 : (Jvm.Cond.soleField "VeilMint$Oblivious" "secret") ∈ lw_all := lw_g (lw_at lw_m3 132 rfl) rfl
theorem q710 : (Jvm.Cond.laysFinal "VeilMint$Oblivious" "VeilMint$Oblivious" "scalar" "[I") ∈ lw_all := lw_g (lw_at lw_m3 133 rfl) rfl
theorem q711 : (Jvm.Cond.soleField "VeilMint$Oblivious" "scalar") ∈ lw_all := lw_g (lw_at lw_m3 134 rfl) rfl
theorem q712 : (Jvm.Cond.laysFinal "VeilMint$Oblivious" "VeilMint$Oblivious" "sum" "[I") ∈ lw_all := lw_g (lw_at lw_m3 135 rfl) rfl
theorem q713 : (Jvm.Cond.soleField "VeilMint$Oblivious" "sum") ∈ lw_all := lw_g (lw_at lw_m3 136 rfl) rfl
theorem q714 : (Jvm.Cond.laysFinal "VeilMint$Oblivious" "VeilMint$Oblivious" "other" "[I") ∈ lw_all := lw_g (lw_at lw_m3 137 rfl) rfl
theorem q715 : (Jvm.Cond.soleField "VeilMint$Oblivious" "other") ∈ lw_all := lw_g (lw_at lw_m3 138 rfl) rfl
theorem q716 : (Jvm.Cond.laysFinal "VeilMint$Oblivious" "VeilMint$Oblivious" "element" "[B") ∈ lw_all := lw_g (lw_at lw_m3 139 rfl) rfl
theorem q717 : (Jvm.Cond.soleField "VeilMint$Oblivious" "element") ∈ lw_all := lw_g (lw_at lw_m3 140 rfl) rfl
theorem q718 : (Jvm.Cond.laysFinal "VeilMint$Oblivious" "VeilMint$Oblivious" "seed" "[B") ∈ lw_all := lw_g (lw_at lw_m3 141 rfl) rfl
theorem q719 : (Jvm.Cond.soleField "VeilMint$Oblivious" "seed") ∈ lw_all := lw_g (lw_at lw_m3 142 rfl) rfl
theorem q720 : (Jvm.Cond.laysFinal "VeilMint$Oblivious" "VeilMint$Oblivious" "five" "[B") ∈ lw_all := lw_g (lw_at lw_m3 143 rfl) rfl
theorem q721 : (Jvm.Cond.soleField "VeilMint$Oblivious" "five") ∈ lw_all := lw_g (lw_at lw_m3 144 rfl) rfl
theorem q722 : (Jvm.Cond.laysFinal "VeilMint$Oblivious" "VeilMint$Oblivious" "told" "[B") ∈ lw_all := lw_g (lw_at lw_m3 145 rfl) rfl
theorem q723 : (Jvm.Cond.soleField "VeilMint$Oblivious" "told") ∈ lw_all := lw_g (lw_at lw_m3 146 rfl) rfl
theorem q724 : (Jvm.Cond.laysFinal "VeilMint$Oblivious" "VeilMint$Oblivious" "point" "LVeilMint$Point;") ∈ lw_all := lw_g (lw_at lw_m3 147 rfl) rfl
theorem q725 : (Jvm.Cond.soleField "VeilMint$Oblivious" "point") ∈ lw_all := lw_g (lw_at lw_m3 148 rfl) rfl
theorem q726 : (Jvm.Cond.laysFinal "VeilMint$Oblivious" "VeilMint$Oblivious" "composite" "LVeilMint$Point;") ∈ lw_all := lw_g (lw_at lw_m3 149 rfl) rfl
theorem q727 : (Jvm.Cond.soleField "VeilMint$Oblivious" "composite") ∈ lw_all := lw_g (lw_at lw_m3 150 rfl) rfl
theorem q728 : (Jvm.Cond.laysFinal "VeilMint$Oblivious" "VeilMint$Oblivious" "evaluated" "LVeilMint$Point;") ∈ lw_all := lw_g (lw_at lw_m3 151 rfl) rfl
theorem q729 : (Jvm.Cond.soleField "VeilMint$Oblivious" "evaluated") ∈ lw_all := lw_g (lw_at lw_m3 152 rfl) rfl
theorem q730 : (Jvm.Cond.laysFinal "VeilMint$Oblivious" "VeilMint$Oblivious" "work" "LVeilMint$Point;") ∈ lw_all := lw_g (lw_at lw_m3 153 rfl) rfl
theorem q731 : (Jvm.Cond.soleField "VeilMint$Oblivious" "work") ∈ lw_all := lw_g (lw_at lw_m3 154 rfl) rfl
theorem q732 : (Jvm.Cond.laysFinal "VeilMint$Oblivious" "VeilMint$Oblivious" "more" "LVeilMint$Point;") ∈ lw_all := lw_g (lw_at lw_m3 155 rfl) rfl
theorem q733 : (Jvm.Cond.soleField "VeilMint$Oblivious" "more") ∈ lw_all := lw_g (lw_at lw_m3 156 rfl) rfl
theorem q734 : (Jvm.Cond.laysFinal "VeilMint$Oblivious" "VeilMint$Key" "id" "[B") ∈ lw_all := lw_g (lw_at lw_m3 157 rfl) rfl
theorem q736 : (Jvm.Cond.laysFinal "VeilMint$Oblivious" "VeilMint$Key" "type" "I") ∈ lw_all := lw_g (lw_at lw_m3 159 rfl) rfl
theorem q738 : (Jvm.Cond.lays "VeilMint$Oblivious" "VeilMint$Key" "live" "Z") ∈ lw_all := lw_g (lw_at lw_m3 161 rfl) rfl
theorem q740 : (Jvm.Cond.superclass "VeilMint$Oblivious" "VeilMint$Key") ∈ lw_all := lw_g (lw_at lw_m3 163 rfl) rfl
theorem q807 : (Jvm.Cond.selects "VeilMint$Oblivious" ({ cls := "VeilMint$Key", name := "publish", desc := "([B)V" } : Jvm.MethodName) ({ cls := "VeilMint$Oblivious", name := "publish", desc := "([B)V" } : Jvm.MethodName)) ∈ lw_all := lw_g (lw_at lw_m3 230 rfl) rfl
theorem q808 : (Jvm.Cond.instanceMethod ({ cls := "VeilMint$Oblivious", name := "publish", desc := "([B)V" } : Jvm.MethodName)) ∈ lw_all := lw_g (lw_at lw_m3 231 rfl) rfl
theorem q809 : (Jvm.Cond.code ({ cls := "VeilMint$Oblivious", name := "publish", desc := "([B)V" } : Jvm.MethodName) prog_10_method_9_code (2 : Nat) (Option.none : Option Jvm.ClassFile.FieldType)) ∈ lw_all := lw_g (lw_at lw_m3 232 rfl) rfl
theorem q810 : (Jvm.Cond.methodLink "VeilMint$Oblivious" (103 : Nat) ({ cls := "java/lang/System", name := "arraycopy", desc := "(Ljava/lang/Object;ILjava/lang/Object;II)V" } : Jvm.MethodName)) ∈ lw_all := lw_g (lw_at lw_m3 233 rfl) rfl
theorem q843 : (Jvm.Cond.selects "VeilMint$Oblivious" ({ cls := "VeilMint$Key", name := "publics", desc := "()I" } : Jvm.MethodName) ({ cls := "VeilMint$Oblivious", name := "publics", desc := "()I" } : Jvm.MethodName)) ∈ lw_all := lw_g (lw_at lw_m4 26 rfl) rfl
theorem q844 : (Jvm.Cond.instanceMethod ({ cls := "VeilMint$Oblivious", name := "publics", desc := "()I" } : Jvm.MethodName)) ∈ lw_all := lw_g (lw_at lw_m4 27 rfl) rfl
theorem q845 : (Jvm.Cond.code ({ cls := "VeilMint$Oblivious", name := "publics", desc := "()I" } : Jvm.MethodName) prog_10_method_8_code (1 : Nat) (Option.some Jvm.ClassFile.FieldType.int)) ∈ lw_all := lw_g (lw_at lw_m4 28 rfl) rfl
theorem q917 : (Jvm.Cond.selects "VeilMint$Oblivious" ({ cls := "VeilMint$Key", name := "blind", desc := "()I" } : Jvm.MethodName) ({ cls := "VeilMint$Oblivious", name := "blind", desc := "()I" } : Jvm.MethodName)) ∈ lw_all := lw_g (lw_at lw_m4 100 rfl) rfl
theorem q918 : (Jvm.Cond.instanceMethod ({ cls := "VeilMint$Oblivious", name := "blind", desc := "()I" } : Jvm.MethodName)) ∈ lw_all := lw_g (lw_at lw_m4 101 rfl) rfl
theorem q919 : (Jvm.Cond.code ({ cls := "VeilMint$Oblivious", name := "blind", desc := "()I" } : Jvm.MethodName) prog_10_method_5_code (1 : Nat) (Option.some Jvm.ClassFile.FieldType.int)) ∈ lw_all := lw_g (lw_at lw_m4 102 rfl) rfl
theorem q927 : (Jvm.Cond.selects "VeilMint$Oblivious" ({ cls := "VeilMint$Key", name := "blinds", desc := "([B[BI[BI)[I" } : Jvm.MethodName) ({ cls := "VeilMint$Oblivious", name := "blinds", desc := "([B[BI[BI)[I" } : Jvm.MethodName)) ∈ lw_all := lw_g (lw_at lw_m4 110 rfl) rfl
theorem q928 : (Jvm.Cond.instanceMethod ({ cls := "VeilMint$Oblivious", name := "blinds", desc := "([B[BI[BI)[I" } : Jvm.MethodName)) ∈ lw_all := lw_g (lw_at lw_m4 111 rfl) rfl
theorem q929 : (Jvm.Cond.code ({ cls := "VeilMint$Oblivious", name := "blinds", desc := "([B[BI[BI)[I" } : Jvm.MethodName) prog_10_method_13_code (6 : Nat) (Option.some (Jvm.ClassFile.FieldType.array Jvm.ClassFile.FieldType.int))) ∈ lw_all := lw_g (lw_at lw_m4 112 rfl) rfl
theorem q930 : (Jvm.Cond.methodLink "VeilMint$Oblivious" (126 : Nat) ({ cls := "VeilMint$Oblivious", name := "group", desc := "([BILVeilMint$Point;)V" } : Jvm.MethodName)) ∈ lw_all := lw_g (lw_at lw_m4 113 rfl) rfl
theorem q931 : (Jvm.Cond.privateMethod ({ cls := "VeilMint$Oblivious", name := "group", desc := "([BILVeilMint$Point;)V" } : Jvm.MethodName)) ∈ lw_tbl := lw_at lw_m4 114 rfl
theorem q932 : (Jvm.Cond.instanceMethod ({ cls := "VeilMint$Oblivious", name := "group", desc := "([BILVeilMint$Point;)V" } : Jvm.MethodName)) ∈ lw_all := lw_g (lw_at lw_m4 115 rfl) rfl
theorem q933 : (Jvm.Cond.code ({ cls := "VeilMint$Oblivious", name := "group", desc := "([BILVeilMint$Point;)V" } : Jvm.MethodName) prog_10_method_10_code (4 : Nat) (Option.none : Option Jvm.ClassFile.FieldType)) ∈ lw_all := lw_g (lw_at lw_m4 116 rfl) rfl
theorem q934 : (Jvm.Cond.methodLink "VeilMint$Oblivious" (109 : Nat) ({ cls := "VeilMint$Curve", name := "begin", desc := "()LVeilMint$Digest;" } : Jvm.MethodName)) ∈ lw_all := lw_g (lw_at lw_m4 117 rfl) rfl
theorem q944 : (Jvm.Cond.methodLink "VeilMint$Oblivious" (113 : Nat) ({ cls := "VeilMint$Digest", name := "put", desc := "([BII)LVeilMint$Digest;" } : Jvm.MethodName)) ∈ lw_all := lw_g (lw_at lw_m4 127 rfl) rfl
theorem q945 : (Jvm.Cond.methodLink "VeilMint$Oblivious" (119 : Nat) ({ cls := "VeilMint$Curve", name := "group", desc := "(LVeilMint$Point;)V" } : Jvm.MethodName)) ∈ lw_all := lw_g (lw_at lw_m4 128 rfl) rfl
theorem q1017 : (Jvm.Cond.methodLink "VeilMint$Oblivious" (129 : Nat) ({ cls := "VeilMint$Oblivious", name := "write", desc := "(LVeilMint$Point;[BI)V" } : Jvm.MethodName)) ∈ lw_all := lw_g (lw_at lw_m4 200 rfl) rfl
theorem q1018 : (Jvm.Cond.privateMethod ({ cls := "VeilMint$Oblivious", name := "write", desc := "(LVeilMint$Point;[BI)V" } : Jvm.MethodName)) ∈ lw_tbl := lw_at lw_m4 201 rfl
theorem q1019 : (Jvm.Cond.instanceMethod ({ cls := "VeilMint$Oblivious", name := "write", desc := "(LVeilMint$Point;[BI)V" } : Jvm.MethodName)) ∈ lw_all := lw_g (lw_at lw_m4 202 rfl) rfl
theorem q1020 : (Jvm.Cond.code ({ cls := "VeilMint$Oblivious", name := "write", desc := "(LVeilMint$Point;[BI)V" } : Jvm.MethodName) prog_10_method_11_code (4 : Nat) (Option.none : Option Jvm.ClassFile.FieldType)) ∈ lw_all := lw_g (lw_at lw_m4 203 rfl) rfl
theorem q1021 : (Jvm.Cond.methodLink "VeilMint$Oblivious" (132 : Nat) ({ cls := "[I", name := "clone", desc := "()Ljava/lang/Object;" } : Jvm.MethodName)) ∈ lw_all := lw_g (lw_at lw_m4 204 rfl) rfl
theorem q1022 : (Jvm.Cond.classLink "VeilMint$Oblivious" (133 : Nat) "[I") ∈ lw_all := lw_g (lw_at lw_m4 205 rfl) rfl
theorem q1064 : (Jvm.Cond.fieldLinkNest "VeilMint$Oblivious" (200 : Nat) "VeilMint$Asking" "input" "[B" "VeilMint") ∈ lw_tbl := lw_at lw_m5 7 rfl
theorem q1067 : (Jvm.Cond.fieldLinkNest "VeilMint$Oblivious" (205 : Nat) "VeilMint$Asking" "kept" "[I" "VeilMint") ∈ lw_tbl := lw_at lw_m5 10 rfl
theorem q1082 : (Jvm.Cond.selects "VeilMint$Oblivious" ({ cls := "VeilMint$Key", name := "blinded", desc := "()I" } : Jvm.MethodName) ({ cls := "VeilMint$Oblivious", name := "blinded", desc := "()I" } : Jvm.MethodName)) ∈ lw_all := lw_g (lw_at lw_m5 25 rfl) rfl
theorem q1083 : (Jvm.Cond.instanceMethod ({ cls := "VeilMint$Oblivious", name := "blinded", desc := "()I" } : Jvm.MethodName)) ∈ lw_all := lw_g (lw_at lw_m5 26 rfl) rfl
theorem q1084 : (Jvm.Cond.code ({ cls := "VeilMint$Oblivious", name := "blinded", desc := "()I" } : Jvm.MethodName) prog_10_method_3_code (1 : Nat) (Option.some Jvm.ClassFile.FieldType.int)) ∈ lw_all := lw_g (lw_at lw_m5 27 rfl) rfl
theorem q1103 : (Jvm.Cond.selects "VeilMint$Oblivious" ({ cls := "VeilMint$Key", name := "chance", desc := "()I" } : Jvm.MethodName) ({ cls := "VeilMint$Oblivious", name := "chance", desc := "()I" } : Jvm.MethodName)) ∈ lw_all := lw_g (lw_at lw_m5 46 rfl) rfl
theorem q1104 : (Jvm.Cond.instanceMethod ({ cls := "VeilMint$Oblivious", name := "chance", desc := "()I" } : Jvm.MethodName)) ∈ lw_all := lw_g (lw_at lw_m5 47 rfl) rfl
theorem q1105 : (Jvm.Cond.code ({ cls := "VeilMint$Oblivious", name := "chance", desc := "()I" } : Jvm.MethodName) prog_10_method_6_code (1 : Nat) (Option.some Jvm.ClassFile.FieldType.int)) ∈ lw_all := lw_g (lw_at lw_m5 48 rfl) rfl
theorem q1112 : (Jvm.Cond.selects "VeilMint$Oblivious" ({ cls := "VeilMint$Key", name := "issues", desc := "([BII[B)V" } : Jvm.MethodName) ({ cls := "VeilMint$Oblivious", name := "issues", desc := "([BII[B)V" } : Jvm.MethodName)) ∈ lw_all := lw_g (lw_at lw_m5 55 rfl) rfl
theorem q1113 : (Jvm.Cond.instanceMethod ({ cls := "VeilMint$Oblivious", name := "issues", desc := "([BII[B)V" } : Jvm.MethodName)) ∈ lw_all := lw_g (lw_at lw_m5 56 rfl) rfl
theorem q1114 : (Jvm.Cond.code ({ cls := "VeilMint$Oblivious", name := "issues", desc := "([BII[B)V" } : Jvm.MethodName) prog_10_method_16_code (6 : Nat) (Option.none : Option Jvm.ClassFile.FieldType)) ∈ lw_all := lw_g (lw_at lw_m5 57 rfl) rfl
theorem q1115 : (Jvm.Cond.methodLink "VeilMint$Oblivious" (170 : Nat) ({ cls := "VeilMint$Oblivious", name := "read", desc := "([BILVeilMint$Point;)V" } : Jvm.MethodName)) ∈ lw_all := lw_g (lw_at lw_m5 58 rfl) rfl
theorem q1116 : (Jvm.Cond.privateMethod ({ cls := "VeilMint$Oblivious", name := "read", desc := "([BILVeilMint$Point;)V" } : Jvm.MethodName)) ∈ lw_tbl := lw_at lw_m5 59 rfl
theorem q1117 : (Jvm.Cond.instanceMethod ({ cls := "VeilMint$Oblivious", name := "read", desc := "([BILVeilMint$Point;)V" } : Jvm.MethodName)) ∈ lw_all := lw_g (lw_at lw_m5 60 rfl) rfl
theorem q1118 : (Jvm.Cond.code ({ cls := "VeilMint$Oblivious", name := "read", desc := "([BILVeilMint$Point;)V" } : Jvm.MethodName) prog_10_method_12_code (4 : Nat) (Option.none : Option Jvm.ClassFile.FieldType)) ∈ lw_all := lw_g (lw_at lw_m5 61 rfl) rfl
theorem q1119 : (Jvm.Cond.methodLink "VeilMint$Oblivious" (123 : Nat) ({ cls := "VeilMint$Curve", name := "read", desc := "([BILVeilMint$Point;)Z" } : Jvm.MethodName)) ∈ lw_all := lw_g (lw_at lw_m5 62 rfl) rfl
theorem q1124 : (Jvm.Cond.methodLink "VeilMint$Oblivious" (178 : Nat) ({ cls := "VeilMint$Oblivious", name := "composites", desc := "([BI[BIIZ)V" } : Jvm.MethodName)) ∈ lw_all := lw_g (lw_at lw_m5 67 rfl) rfl
theorem q1125 : (Jvm.Cond.privateMethod ({ cls := "VeilMint$Oblivious", name := "composites", desc := "([BI[BIIZ)V" } : Jvm.MethodName)) ∈ lw_tbl := lw_at lw_m5 68 rfl
theorem q1126 : (Jvm.Cond.instanceMethod ({ cls := "VeilMint$Oblivious", name := "composites", desc := "([BI[BIIZ)V" } : Jvm.MethodName)) ∈ lw_all := lw_g (lw_at lw_m5 69 rfl) rfl
theorem q1127 : (Jvm.Cond.code ({ cls := "VeilMint$Oblivious", name := "composites", desc := "([BI[BIIZ)V" } : Jvm.MethodName) prog_10_method_14_code (10 : Nat) (Option.none : Option Jvm.ClassFile.FieldType)) ∈ lw_all := lw_g (lw_at lw_m5 70 rfl) rfl
theorem q1128 : (Jvm.Cond.methodLink "VeilMint$Oblivious" (141 : Nat) ({ cls := "VeilMint$Digest384", name := "begin", desc := "()LVeilMint$Digest;" } : Jvm.MethodName)) ∈ lw_all := lw_g (lw_at lw_m5 71 rfl) rfl
theorem q1129 : (Jvm.Cond.methodLink "VeilMint$Oblivious" (144 : Nat) ({ cls := "VeilMint$Digest", name := "two", desc := "(I)LVeilMint$Digest;" } : Jvm.MethodName)) ∈ lw_all := lw_g (lw_at lw_m5 72 rfl) rfl
theorem q1130 : (Jvm.Cond.stringRef "VeilMint$Oblivious" (148 : Nat) "Seed-OPRFV1-") ∈ lw_tbl := lw_at lw_m5 73 rfl
theorem q1131 : (Jvm.Cond.methodLink "VeilMint$Oblivious" (150 : Nat) ({ cls := "VeilMint$Digest", name := "word", desc := "(Ljava/lang/String;)LVeilMint$Digest;" } : Jvm.MethodName)) ∈ lw_all := lw_g (lw_at lw_m5 74 rfl) rfl
theorem q1132 : (Jvm.Cond.methodLink "VeilMint$Oblivious" (154 : Nat) ({ cls := "VeilMint$Digest", name := "put", desc := "(I)LVeilMint$Digest;" } : Jvm.MethodName)) ∈ lw_all := lw_g (lw_at lw_m5 75 rfl) rfl
theorem q1133 : (Jvm.Cond.stringRef "VeilMint$Oblivious" (156 : Nat) "-P384-SHA384") ∈ lw_tbl := lw_at lw_m5 76 rfl
theorem q1134 : (Jvm.Cond.methodLink "VeilMint$Oblivious" (158 : Nat) ({ cls := "VeilMint$Digest", name := "end", desc := "()[B" } : Jvm.MethodName)) ∈ lw_all := lw_g (lw_at lw_m5 77 rfl) rfl
theorem q1135 : (Jvm.Cond.methodLink "VeilMint$Oblivious" (162 : Nat) ({ cls := "VeilMint$Point", name := "vanish", desc := "()V" } : Jvm.MethodName)) ∈ lw_all := lw_g (lw_at lw_m5 78 rfl) rfl
theorem q1136 : (Jvm.Cond.stringRef "VeilMint$Oblivious" (165 : Nat) "Composite") ∈ lw_tbl := lw_at lw_m5 79 rfl
theorem q1137 : (Jvm.Cond.methodLink "VeilMint$Oblivious" (167 : Nat) ({ cls := "VeilMint$Curve", name := "scalar", desc := "([I)V" } : Jvm.MethodName)) ∈ lw_all := lw_g (lw_at lw_m5 80 rfl) rfl
theorem q1142 : (Jvm.Cond.methodLink "VeilMint$Oblivious" (172 : Nat) ({ cls := "VeilMint$Curve", name := "add", desc := "(LVeilMint$Point;LVeilMint$Point;)V" } : Jvm.MethodName)) ∈ lw_all := lw_g (lw_at lw_m5 85 rfl) rfl
theorem q1143 : (Jvm.Cond.methodLink "VeilMint$Oblivious" (182 : Nat) ({ cls := "VeilMint$Oblivious", name := "challenge", desc := "(LVeilMint$Point;LVeilMint$Point;[I)V" } : Jvm.MethodName)) ∈ lw_all := lw_g (lw_at lw_m5 86 rfl) rfl
theorem q1144 : (Jvm.Cond.privateMethod ({ cls := "VeilMint$Oblivious", name := "challenge", desc := "(LVeilMint$Point;LVeilMint$Point;[I)V" } : Jvm.MethodName)) ∈ lw_tbl := lw_at lw_m5 87 rfl
theorem q1145 : (Jvm.Cond.instanceMethod ({ cls := "VeilMint$Oblivious", name := "challenge", desc := "(LVeilMint$Point;LVeilMint$Point;[I)V" } : Jvm.MethodName)) ∈ lw_all := lw_g (lw_at lw_m5 88 rfl) rfl
theorem q1146 : (Jvm.Cond.code ({ cls := "VeilMint$Oblivious", name := "challenge", desc := "(LVeilMint$Point;LVeilMint$Point;[I)V" } : Jvm.MethodName) prog_10_method_15_code (6 : Nat) (Option.none : Option Jvm.ClassFile.FieldType)) ∈ lw_all := lw_g (lw_at lw_m5 89 rfl) rfl
theorem q1147 : (Jvm.Cond.stringRef "VeilMint$Oblivious" (176 : Nat) "Challenge") ∈ lw_tbl := lw_at lw_m5 90 rfl
theorem q1148 : (Jvm.Cond.methodLink "VeilMint$Oblivious" (186 : Nat) ({ cls := "VeilMint$Modulus", name := "in", desc := "([I[I)V" } : Jvm.MethodName)) ∈ lw_all := lw_g (lw_at lw_m5 91 rfl) rfl
theorem q1149 : (Jvm.Cond.methodLink "VeilMint$Oblivious" (190 : Nat) ({ cls := "VeilMint$Modulus", name := "mul", desc := "([I[I[I)V" } : Jvm.MethodName)) ∈ lw_all := lw_g (lw_at lw_m5 92 rfl) rfl
theorem q1150 : (Jvm.Cond.methodLink "VeilMint$Oblivious" (194 : Nat) ({ cls := "VeilMint$Modulus", name := "sub", desc := "([I[I[I)V" } : Jvm.MethodName)) ∈ lw_all := lw_g (lw_at lw_m5 93 rfl) rfl
theorem q1151 : (Jvm.Cond.methodLink "VeilMint$Oblivious" (197 : Nat) ({ cls := "VeilMint$Modulus", name := "write", desc := "([I[BII)V" } : Jvm.MethodName)) ∈ lw_all := lw_g (lw_at lw_m5 94 rfl) rfl
theorem q1160 : (Jvm.Cond.selects "VeilMint$Oblivious" ({ cls := "VeilMint$Key", name := "answers", desc := "(I)I" } : Jvm.MethodName) ({ cls := "VeilMint$Oblivious", name := "answers", desc := "(I)I" } : Jvm.MethodName)) ∈ lw_all := lw_g (lw_at lw_m5 103 rfl) rfl
theorem q1161 : (Jvm.Cond.instanceMethod ({ cls := "VeilMint$Oblivious", name := "answers", desc := "(I)I" } : Jvm.MethodName)) ∈ lw_all := lw_g (lw_at lw_m5 104 rfl) rfl
theorem q1162 : (Jvm.Cond.code ({ cls := "VeilMint$Oblivious", name := "answers", desc := "(I)I" } : Jvm.MethodName) prog_10_method_7_code (2 : Nat) (Option.some Jvm.ClassFile.FieldType.int)) ∈ lw_all := lw_g (lw_at lw_m5 105 rfl) rfl
theorem q1181 : (Jvm.Cond.selects "VeilMint$Oblivious" ({ cls := "VeilMint$Key", name := "proved", desc := "()I" } : Jvm.MethodName) ({ cls := "VeilMint$Oblivious", name := "proved", desc := "()I" } : Jvm.MethodName)) ∈ lw_all := lw_g (lw_at lw_m5 124 rfl) rfl
theorem q1182 : (Jvm.Cond.instanceMethod ({ cls := "VeilMint$Oblivious", name := "proved", desc := "()I" } : Jvm.MethodName)) ∈ lw_all := lw_g (lw_at lw_m5 125 rfl) rfl
theorem q1183 : (Jvm.Cond.code ({ cls := "VeilMint$Oblivious", name := "proved", desc := "()I" } : Jvm.MethodName) prog_10_method_4_code (1 : Nat) (Option.some Jvm.ClassFile.FieldType.int)) ∈ lw_all := lw_g (lw_at lw_m5 126 rfl) rfl
theorem q1190 : (Jvm.Cond.selects "VeilMint$Oblivious" ({ cls := "VeilMint$Key", name := "isRight", desc := "([BI[BI)Z" } : Jvm.MethodName) ({ cls := "VeilMint$Oblivious", name := "isRight", desc := "([BI[BI)Z" } : Jvm.MethodName)) ∈ lw_all := lw_g (lw_at lw_m5 133 rfl) rfl
theorem q1191 : (Jvm.Cond.instanceMethod ({ cls := "VeilMint$Oblivious", name := "isRight", desc := "([BI[BI)Z" } : Jvm.MethodName)) ∈ lw_all := lw_g (lw_at lw_m5 134 rfl) rfl
theorem q1192 : (Jvm.Cond.code ({ cls := "VeilMint$Oblivious", name := "isRight", desc := "([BI[BI)Z" } : Jvm.MethodName) prog_10_method_19_code (7 : Nat) (Option.some Jvm.ClassFile.FieldType.boolean)) ∈ lw_all := lw_g (lw_at lw_m5 135 rfl) rfl
theorem q1193 : (Jvm.Cond.methodLink "VeilMint$Oblivious" (219 : Nat) ({ cls := "VeilMint$Oblivious", name := "output", desc := "([BI[BI)V" } : Jvm.MethodName)) ∈ lw_all := lw_g (lw_at lw_m5 136 rfl) rfl
theorem q1194 : (Jvm.Cond.privateMethod ({ cls := "VeilMint$Oblivious", name := "output", desc := "([BI[BI)V" } : Jvm.MethodName)) ∈ lw_tbl := lw_at lw_m5 137 rfl
theorem q1195 : (Jvm.Cond.instanceMethod ({ cls := "VeilMint$Oblivious", name := "output", desc := "([BI[BI)V" } : Jvm.MethodName)) ∈ lw_all := lw_g (lw_at lw_m5 138 rfl) rfl
theorem q1196 : (Jvm.Cond.code ({ cls := "VeilMint$Oblivious", name := "output", desc := "([BI[BI)V" } : Jvm.MethodName) prog_10_method_18_code (6 : Nat) (Option.none : Option Jvm.ClassFile.FieldType)) ∈ lw_all := lw_g (lw_at lw_m5 139 rfl) rfl
theorem q1197 : (Jvm.Cond.stringRef "VeilMint$Oblivious" (223 : Nat) "Finalize") ∈ lw_tbl := lw_at lw_m5 140 rfl
theorem q1304 : (Jvm.Cond.selects "VeilMint$Oblivious" ({ cls := "VeilMint$Key", name := "finishes", desc := "([LVeilMint$Asking;II[B[B)V" } : Jvm.MethodName) ({ cls := "VeilMint$Oblivious", name := "finishes", desc := "([LVeilMint$Asking;II[B[B)V" } : Jvm.MethodName)) ∈ lw_all := lw_g (lw_at lw_m6 7 rfl) rfl
theorem q1305 : (Jvm.Cond.instanceMethod ({ cls := "VeilMint$Oblivious", name := "finishes", desc := "([LVeilMint$Asking;II[B[B)V" } : Jvm.MethodName)) ∈ lw_all := lw_g (lw_at lw_m6 8 rfl) rfl
theorem q1306 : (Jvm.Cond.code ({ cls := "VeilMint$Oblivious", name := "finishes", desc := "([LVeilMint$Asking;II[B[B)V" } : Jvm.MethodName) prog_10_method_17_code (15 : Nat) (Option.none : Option Jvm.ClassFile.FieldType)) ∈ lw_all := lw_g (lw_at lw_m6 9 rfl) rfl
theorem q1307 : (Jvm.Cond.methodLink "VeilMint$Oblivious" (208 : Nat) ({ cls := "VeilMint$Point", name := "be", desc := "(LVeilMint$Point;)V" } : Jvm.MethodName)) ∈ lw_all := lw_g (lw_at lw_m6 10 rfl) rfl
theorem q1308 : (Jvm.Cond.methodLink "VeilMint$Oblivious" (211 : Nat) ({ cls := "VeilMint$Modulus", name := "compare", desc := "([I[I)I" } : Jvm.MethodName)) ∈ lw_all := lw_g (lw_at lw_m6 11 rfl) rfl
theorem q1309 : (Jvm.Cond.methodLink "VeilMint$Oblivious" (215 : Nat) ({ cls := "VeilMint$Modulus", name := "inverse", desc := "([I[I)Z" } : Jvm.MethodName)) ∈ lw_all := lw_g (lw_at lw_m6 12 rfl) rfl
theorem q2153 : (Jvm.Cond.castable "VeilMint$Oblivious" "java/lang/Object") ∈ lw_tbl := lw_at lw_m9 136 rfl
theorem q2159 : (Jvm.Cond.castable "VeilMint$Oblivious" "VeilMint$Key") ∈ lw_tbl := lw_at lw_m9 142 rfl
theorem in_X14 : ∀ w ∈ wsX140, w ∈ lw_all := lw_in wsX140 [734, 736, 738, 704, 706, 708, 710, 712, 714, 716, 718, 720, 722, 724, 726, 728, 730, 732] (by decide +kernel) (by decide +kernel)
/-! VeilMint$Signing -/
set_option maxRecDepth 100000
def RX15 : String := "VeilMint$Signing"
def TX15 : u_T := fun k => match k with
  | 0 => ("VeilMint$Key", "id", "[B", true)
  | 1 => ("VeilMint$Key", "type", "I", true)
  | 2 => ("VeilMint$Key", "live", "Z", false)
  | 3 => ("VeilMint$Signing", "digest", "LVeilMint$Digest384;", true)
  | 4 => ("VeilMint$Signing", "refusal", "LVeilMint$Refusal;", true)
  | 5 => ("VeilMint$Signing", "size", "I", true)
  | 6 => ("VeilMint$Signing", "salts", "I", true)
  | 7 => ("VeilMint$Signing", "bits", "I", true)
  | 8 => ("VeilMint$Signing", "n", "LVeilMint$Modulus;", true)
  | 9 => ("VeilMint$Signing", "power", "[I", true)
  | 10 => ("VeilMint$Signing", "secret", "[I", true)
  | 11 => ("VeilMint$Signing", "x", "[I", true)
  | 12 => ("VeilMint$Signing", "y", "[I", true)
  | 13 => ("VeilMint$Signing", "z", "[I", true)
  | 14 => ("VeilMint$Signing", "shown", "[B", true)
  | 15 => ("VeilMint$Signing", "coded", "[B", true)
  | _ => ("VeilMint$Signing", "masked", "[B", true)
def tyX15 : Nat → FieldType := fun k => match k with
  | 0 => .array .byte
  | 1 => .int
  | 2 => .boolean
  | 3 => .object "VeilMint$Digest384"
  | 4 => .object "VeilMint$Refusal"
  | 5 => .int
  | 6 => .int
  | 7 => .int
  | 8 => .object "VeilMint$Modulus"
  | 9 => .array .int
  | 10 => .array .int
  | 11 => .array .int
  | 12 => .array .int
  | 13 => .array .int
  | 14 => .array .byte
  | 15 => .array .byte
  | _ => .array .byte
abbrev wsX150 : List Cond := u_ws RX15 TX15 17
set_option maxRecDepth 100000 in
theorem nmX15 : ∀ a, a < 17 → ∀ b, b < 17 → a ≠ b → (TX15 a).2.1 ≠ (TX15 b).2.1 := by decide +kernel
set_option maxRecDepth 100000 in
theorem tyX15_ok : ∀ k, k < 17 → parseFieldDescriptor (TX15 k).2.2.1 = some (tyX15 k) := by decide +kernel
abbrev cX15_init : ByteArray := prog_13_method_1_code
def yX15_init : MethodName := ⟨RX15, "<init>", "(LVeilMint$Digest384;LVeilMint$Refusal;[BI)V"⟩
theorem dX15_init_0 : decode cX15_init 0 = .ok (.aload_n 0, 1) := by decide +kernel
theorem dX15_init_1 : decode cX15_init 1 = .ok (.iconst 2, 1) := by decide +kernel
theorem dX15_init_2 : decode cX15_init 2 = .ok (.invokespecial 3, 3) := by decide +kernel
theorem dX15_init_5 : decode cX15_init 5 = .ok (.aload_n 0, 1) := by decide +kernel
theorem dX15_init_6 : decode cX15_init 6 = .ok (.aload_n 1, 1) := by decide +kernel
theorem dX15_init_7 : decode cX15_init 7 = .ok (.putfield 9, 3) := by decide +kernel
theorem dX15_init_10 : decode cX15_init 10 = .ok (.aload_n 0, 1) := by decide +kernel
theorem dX15_init_11 : decode cX15_init 11 = .ok (.aload_n 2, 1) := by decide +kernel
theorem dX15_init_12 : decode cX15_init 12 = .ok (.putfield 15, 3) := by decide +kernel
theorem dX15_init_15 : decode cX15_init 15 = .ok (.aload_n 0, 1) := by decide +kernel
theorem dX15_init_16 : decode cX15_init 16 = .ok (.iload 4, 2) := by decide +kernel
theorem dX15_init_18 : decode cX15_init 18 = .ok (.iconst 4, 1) := by decide +kernel
theorem dX15_init_19 : decode cX15_init 19 = .ok (.isub, 1) := by decide +kernel
theorem dX15_init_20 : decode cX15_init 20 = .ok (.iconst 2, 1) := by decide +kernel
theorem dX15_init_21 : decode cX15_init 21 = .ok (.idiv, 1) := by decide +kernel
theorem dX15_init_22 : decode cX15_init 22 = .ok (.putfield 19, 3) := by decide +kernel
theorem dX15_init_25 : decode cX15_init 25 = .ok (.aload_n 0, 1) := by decide +kernel
theorem dX15_init_26 : decode cX15_init 26 = .ok (.aload_n 3, 1) := by decide +kernel
theorem dX15_init_27 : decode cX15_init 27 = .ok (.iload 4, 2) := by decide +kernel
theorem dX15_init_29 : decode cX15_init 29 = .ok (.iconst 1, 1) := by decide +kernel
theorem dX15_init_30 : decode cX15_init 30 = .ok (.isub, 1) := by decide +kernel
theorem dX15_init_31 : decode cX15_init 31 = .ok (.baload, 1) := by decide +kernel
theorem dX15_init_32 : decode cX15_init 32 = .ok (.putfield 23, 3) := by decide +kernel
theorem dX15_init_35 : decode cX15_init 35 = .ok (.aload_n 3, 1) := by decide +kernel
theorem dX15_init_36 : decode cX15_init 36 = .ok (.aload_n 0, 1) := by decide +kernel
theorem dX15_init_37 : decode cX15_init 37 = .ok (.getfield 19, 3) := by decide +kernel
theorem dX15_init_40 : decode cX15_init 40 = .ok (.baload, 1) := by decide +kernel
theorem dX15_init_41 : decode cX15_init 41 = .ok (.sipush 255, 3) := by decide +kernel
theorem dX15_init_44 : decode cX15_init 44 = .ok (.iand, 1) := by decide +kernel
theorem dX15_init_45 : decode cX15_init 45 = .ok (.bipush 16, 2) := by decide +kernel
theorem dX15_init_47 : decode cX15_init 47 = .ok (.ishl, 1) := by decide +kernel
theorem dX15_init_48 : decode cX15_init 48 = .ok (.aload_n 3, 1) := by decide +kernel
theorem dX15_init_49 : decode cX15_init 49 = .ok (.aload_n 0, 1) := by decide +kernel
theorem dX15_init_50 : decode cX15_init 50 = .ok (.getfield 19, 3) := by decide +kernel
theorem dX15_init_53 : decode cX15_init 53 = .ok (.iconst 1, 1) := by decide +kernel
theorem dX15_init_54 : decode cX15_init 54 = .ok (.iadd, 1) := by decide +kernel
theorem dX15_init_55 : decode cX15_init 55 = .ok (.baload, 1) := by decide +kernel
theorem dX15_init_56 : decode cX15_init 56 = .ok (.sipush 255, 3) := by decide +kernel
theorem dX15_init_59 : decode cX15_init 59 = .ok (.iand, 1) := by decide +kernel
theorem dX15_init_60 : decode cX15_init 60 = .ok (.bipush 8, 2) := by decide +kernel
theorem dX15_init_62 : decode cX15_init 62 = .ok (.ishl, 1) := by decide +kernel
theorem dX15_init_63 : decode cX15_init 63 = .ok (.ior, 1) := by decide +kernel
theorem dX15_init_64 : decode cX15_init 64 = .ok (.aload_n 3, 1) := by decide +kernel
theorem dX15_init_65 : decode cX15_init 65 = .ok (.aload_n 0, 1) := by decide +kernel
theorem dX15_init_66 : decode cX15_init 66 = .ok (.getfield 19, 3) := by decide +kernel
theorem dX15_init_69 : decode cX15_init 69 = .ok (.iconst 2, 1) := by decide +kernel
theorem dX15_init_70 : decode cX15_init 70 = .ok (.iadd, 1) := by decide +kernel
theorem dX15_init_71 : decode cX15_init 71 = .ok (.baload, 1) := by decide +kernel
theorem dX15_init_72 : decode cX15_init 72 = .ok (.sipush 255, 3) := by decide +kernel
theorem dX15_init_75 : decode cX15_init 75 = .ok (.iand, 1) := by decide +kernel
theorem dX15_init_76 : decode cX15_init 76 = .ok (.ior, 1) := by decide +kernel
theorem dX15_init_77 : decode cX15_init 77 = .ok (.istore 5, 2) := by decide +kernel
theorem dX15_init_79 : decode cX15_init 79 = .ok (.iload 4, 2) := by decide +kernel
theorem dX15_init_81 : decode cX15_init 81 = .ok (.iconst 1, 1) := by decide +kernel
theorem dX15_init_82 : decode cX15_init 82 = .ok (.iand, 1) := by decide +kernel
theorem dX15_init_83 : decode cX15_init 83 = .ok (.ifCond .ne 92, 3) := by decide +kernel
theorem dX15_init_86 : decode cX15_init 86 = .ok (.aload_n 0, 1) := by decide +kernel
theorem dX15_init_87 : decode cX15_init 87 = .ok (.getfield 19, 3) := by decide +kernel
theorem dX15_init_90 : decode cX15_init 90 = .ok (.bipush 66, 2) := by decide +kernel
theorem dX15_init_92 : decode cX15_init 92 = .ok (.if_icmp .lt 83, 3) := by decide +kernel
theorem dX15_init_95 : decode cX15_init 95 = .ok (.aload_n 0, 1) := by decide +kernel
theorem dX15_init_96 : decode cX15_init 96 = .ok (.getfield 19, 3) := by decide +kernel
theorem dX15_init_99 : decode cX15_init 99 = .ok (.sipush 256, 3) := by decide +kernel
theorem dX15_init_102 : decode cX15_init 102 = .ok (.if_icmp .gt 73, 3) := by decide +kernel
theorem dX15_init_105 : decode cX15_init 105 = .ok (.aload_n 3, 1) := by decide +kernel
theorem dX15_init_106 : decode cX15_init 106 = .ok (.iconst 0, 1) := by decide +kernel
theorem dX15_init_107 : decode cX15_init 107 = .ok (.baload, 1) := by decide +kernel
theorem dX15_init_108 : decode cX15_init 108 = .ok (.ifCond .eq 67, 3) := by decide +kernel
theorem dX15_init_111 : decode cX15_init 111 = .ok (.aload_n 3, 1) := by decide +kernel
theorem dX15_init_112 : decode cX15_init 112 = .ok (.aload_n 0, 1) := by decide +kernel
theorem dX15_init_113 : decode cX15_init 113 = .ok (.getfield 19, 3) := by decide +kernel
theorem dX15_init_116 : decode cX15_init 116 = .ok (.iconst 1, 1) := by decide +kernel
theorem dX15_init_117 : decode cX15_init 117 = .ok (.isub, 1) := by decide +kernel
theorem dX15_init_118 : decode cX15_init 118 = .ok (.baload, 1) := by decide +kernel
theorem dX15_init_119 : decode cX15_init 119 = .ok (.iconst 1, 1) := by decide +kernel
theorem dX15_init_120 : decode cX15_init 120 = .ok (.iand, 1) := by decide +kernel
theorem dX15_init_121 : decode cX15_init 121 = .ok (.iconst 1, 1) := by decide +kernel
theorem dX15_init_122 : decode cX15_init 122 = .ok (.if_icmp .ne 53, 3) := by decide +kernel
theorem dX15_init_125 : decode cX15_init 125 = .ok (.iload 5, 2) := by decide +kernel
theorem dX15_init_127 : decode cX15_init 127 = .ok (.iconst 1, 1) := by decide +kernel
theorem dX15_init_128 : decode cX15_init 128 = .ok (.iand, 1) := by decide +kernel
theorem dX15_init_129 : decode cX15_init 129 = .ok (.iconst 1, 1) := by decide +kernel
theorem dX15_init_130 : decode cX15_init 130 = .ok (.if_icmp .ne 45, 3) := by decide +kernel
theorem dX15_init_133 : decode cX15_init 133 = .ok (.iload 5, 2) := by decide +kernel
theorem dX15_init_135 : decode cX15_init 135 = .ok (.iconst 3, 1) := by decide +kernel
theorem dX15_init_136 : decode cX15_init 136 = .ok (.if_icmp .lt 39, 3) := by decide +kernel
theorem dX15_init_139 : decode cX15_init 139 = .ok (.iload 5, 2) := by decide +kernel
theorem dX15_init_141 : decode cX15_init 141 = .ok (.ldc 26, 2) := by decide +kernel
theorem dX15_init_143 : decode cX15_init 143 = .ok (.if_icmp .gt 32, 3) := by decide +kernel
theorem dX15_init_146 : decode cX15_init 146 = .ok (.aload_n 0, 1) := by decide +kernel
theorem dX15_init_147 : decode cX15_init 147 = .ok (.getfield 23, 3) := by decide +kernel
theorem dX15_init_150 : decode cX15_init 150 = .ok (.ifCond .eq 21, 3) := by decide +kernel
theorem dX15_init_153 : decode cX15_init 153 = .ok (.aload_n 0, 1) := by decide +kernel
theorem dX15_init_154 : decode cX15_init 154 = .ok (.getfield 23, 3) := by decide +kernel
theorem dX15_init_157 : decode cX15_init 157 = .ok (.bipush 48, 2) := by decide +kernel
theorem dX15_init_159 : decode cX15_init 159 = .ok (.if_icmp .ne 16, 3) := by decide +kernel
theorem dX15_init_162 : decode cX15_init 162 = .ok (.aload_n 0, 1) := by decide +kernel
theorem dX15_init_163 : decode cX15_init 163 = .ok (.getfield 19, 3) := by decide +kernel
theorem dX15_init_166 : decode cX15_init 166 = .ok (.bipush 100, 2) := by decide +kernel
theorem dX15_init_168 : decode cX15_init 168 = .ok (.if_icmp .lt 7, 3) := by decide +kernel
theorem dX15_init_171 : decode cX15_init 171 = .ok (.iconst 1, 1) := by decide +kernel
theorem dX15_init_172 : decode cX15_init 172 = .ok (.goto 4, 3) := by decide +kernel
theorem dX15_init_175 : decode cX15_init 175 = .ok (.iconst 0, 1) := by decide +kernel
theorem dX15_init_176 : decode cX15_init 176 = .ok (.istore 6, 2) := by decide +kernel
theorem dX15_init_178 : decode cX15_init 178 = .ok (.iload 6, 2) := by decide +kernel
theorem dX15_init_180 : decode cX15_init 180 = .ok (.ifCond .ne 10, 3) := by decide +kernel
theorem dX15_init_183 : decode cX15_init 183 = .ok (.aload_n 2, 1) := by decide +kernel
theorem dX15_init_184 : decode cX15_init 184 = .ok (.bipush (-2), 2) := by decide +kernel
theorem dX15_init_186 : decode cX15_init 186 = .ok (.invokevirtual 27, 3) := by decide +kernel
theorem dX15_init_189 : decode cX15_init 189 = .ok (.athrow, 1) := by decide +kernel
theorem dX15_init_190 : decode cX15_init 190 = .ok (.aload_n 0, 1) := by decide +kernel
theorem dX15_init_191 : decode cX15_init 191 = .ok (.getfield 19, 3) := by decide +kernel
theorem dX15_init_194 : decode cX15_init 194 = .ok (.iconst 3, 1) := by decide +kernel
theorem dX15_init_195 : decode cX15_init 195 = .ok (.iadd, 1) := by decide +kernel
theorem dX15_init_196 : decode cX15_init 196 = .ok (.iconst 4, 1) := by decide +kernel
theorem dX15_init_197 : decode cX15_init 197 = .ok (.idiv, 1) := by decide +kernel
theorem dX15_init_198 : decode cX15_init 198 = .ok (.istore 7, 2) := by decide +kernel
theorem dX15_init_200 : decode cX15_init 200 = .ok (.iload 7, 2) := by decide +kernel
theorem dX15_init_202 : decode cX15_init 202 = .ok (.newarray .int, 2) := by decide +kernel
theorem dX15_init_204 : decode cX15_init 204 = .ok (.astore 8, 2) := by decide +kernel
theorem dX15_init_206 : decode cX15_init 206 = .ok (.iconst 0, 1) := by decide +kernel
theorem dX15_init_207 : decode cX15_init 207 = .ok (.istore 9, 2) := by decide +kernel
theorem dX15_init_209 : decode cX15_init 209 = .ok (.iload 9, 2) := by decide +kernel
theorem dX15_init_211 : decode cX15_init 211 = .ok (.aload_n 0, 1) := by decide +kernel
theorem dX15_init_212 : decode cX15_init 212 = .ok (.getfield 19, 3) := by decide +kernel
theorem dX15_init_215 : decode cX15_init 215 = .ok (.if_icmp .ge 49, 3) := by decide +kernel
theorem dX15_init_218 : decode cX15_init 218 = .ok (.aload 8, 2) := by decide +kernel
theorem dX15_init_220 : decode cX15_init 220 = .ok (.aload_n 0, 1) := by decide +kernel
theorem dX15_init_221 : decode cX15_init 221 = .ok (.getfield 19, 3) := by decide +kernel
theorem dX15_init_224 : decode cX15_init 224 = .ok (.iconst 1, 1) := by decide +kernel
theorem dX15_init_225 : decode cX15_init 225 = .ok (.isub, 1) := by decide +kernel
theorem dX15_init_226 : decode cX15_init 226 = .ok (.iload 9, 2) := by decide +kernel
theorem dX15_init_228 : decode cX15_init 228 = .ok (.isub, 1) := by decide +kernel
theorem dX15_init_229 : decode cX15_init 229 = .ok (.iconst 2, 1) := by decide +kernel
theorem dX15_init_230 : decode cX15_init 230 = .ok (.ishr, 1) := by decide +kernel
theorem dX15_init_231 : decode cX15_init 231 = .ok (.dup2, 1) := by decide +kernel
theorem dX15_init_232 : decode cX15_init 232 = .ok (.iaload, 1) := by decide +kernel
theorem dX15_init_233 : decode cX15_init 233 = .ok (.aload_n 3, 1) := by decide +kernel
theorem dX15_init_234 : decode cX15_init 234 = .ok (.iload 9, 2) := by decide +kernel
theorem dX15_init_236 : decode cX15_init 236 = .ok (.baload, 1) := by decide +kernel
theorem dX15_init_237 : decode cX15_init 237 = .ok (.sipush 255, 3) := by decide +kernel
theorem dX15_init_240 : decode cX15_init 240 = .ok (.iand, 1) := by decide +kernel
theorem dX15_init_241 : decode cX15_init 241 = .ok (.bipush 8, 2) := by decide +kernel
theorem dX15_init_243 : decode cX15_init 243 = .ok (.aload_n 0, 1) := by decide +kernel
theorem dX15_init_244 : decode cX15_init 244 = .ok (.getfield 19, 3) := by decide +kernel
theorem dX15_init_247 : decode cX15_init 247 = .ok (.iconst 1, 1) := by decide +kernel
theorem dX15_init_248 : decode cX15_init 248 = .ok (.isub, 1) := by decide +kernel
theorem dX15_init_249 : decode cX15_init 249 = .ok (.iload 9, 2) := by decide +kernel
theorem dX15_init_251 : decode cX15_init 251 = .ok (.isub, 1) := by decide +kernel
theorem dX15_init_252 : decode cX15_init 252 = .ok (.iconst 3, 1) := by decide +kernel
theorem dX15_init_253 : decode cX15_init 253 = .ok (.iand, 1) := by decide +kernel
theorem dX15_init_254 : decode cX15_init 254 = .ok (.imul, 1) := by decide +kernel
theorem dX15_init_255 : decode cX15_init 255 = .ok (.ishl, 1) := by decide +kernel
theorem dX15_init_256 : decode cX15_init 256 = .ok (.ior, 1) := by decide +kernel
theorem dX15_init_257 : decode cX15_init 257 = .ok (.iastore, 1) := by decide +kernel
theorem dX15_init_258 : decode cX15_init 258 = .ok (.iinc 9 1, 3) := by decide +kernel
theorem dX15_init_261 : decode cX15_init 261 = .ok (.goto (-52), 3) := by decide +kernel
theorem dX15_init_264 : decode cX15_init 264 = .ok (.aload_n 0, 1) := by decide +kernel
theorem dX15_init_265 : decode cX15_init 265 = .ok (.new 33, 3) := by decide +kernel
theorem dX15_init_268 : decode cX15_init 268 = .ok (.dup, 1) := by decide +kernel
theorem dX15_init_269 : decode cX15_init 269 = .ok (.aload 8, 2) := by decide +kernel
theorem dX15_init_271 : decode cX15_init 271 = .ok (.invokespecial 35, 3) := by decide +kernel
theorem dX15_init_274 : decode cX15_init 274 = .ok (.putfield 38, 3) := by decide +kernel
theorem dX15_init_277 : decode cX15_init 277 = .ok (.aload_n 0, 1) := by decide +kernel
theorem dX15_init_278 : decode cX15_init 278 = .ok (.iconst 1, 1) := by decide +kernel
theorem dX15_init_279 : decode cX15_init 279 = .ok (.newarray .int, 2) := by decide +kernel
theorem dX15_init_281 : decode cX15_init 281 = .ok (.dup, 1) := by decide +kernel
theorem dX15_init_282 : decode cX15_init 282 = .ok (.iconst 0, 1) := by decide +kernel
theorem dX15_init_283 : decode cX15_init 283 = .ok (.iload 5, 2) := by decide +kernel
theorem dX15_init_285 : decode cX15_init 285 = .ok (.iastore, 1) := by decide +kernel
theorem dX15_init_286 : decode cX15_init 286 = .ok (.putfield 42, 3) := by decide +kernel
theorem dX15_init_289 : decode cX15_init 289 = .ok (.aload_n 0, 1) := by decide +kernel
theorem dX15_init_290 : decode cX15_init 290 = .ok (.iload 7, 2) := by decide +kernel
theorem dX15_init_292 : decode cX15_init 292 = .ok (.newarray .int, 2) := by decide +kernel
theorem dX15_init_294 : decode cX15_init 294 = .ok (.putfield 46, 3) := by decide +kernel
theorem dX15_init_297 : decode cX15_init 297 = .ok (.aload_n 0, 1) := by decide +kernel
theorem dX15_init_298 : decode cX15_init 298 = .ok (.getfield 38, 3) := by decide +kernel
theorem dX15_init_301 : decode cX15_init 301 = .ok (.aload_n 3, 1) := by decide +kernel
theorem dX15_init_302 : decode cX15_init 302 = .ok (.aload_n 0, 1) := by decide +kernel
theorem dX15_init_303 : decode cX15_init 303 = .ok (.getfield 19, 3) := by decide +kernel
theorem dX15_init_306 : decode cX15_init 306 = .ok (.iconst 3, 1) := by decide +kernel
theorem dX15_init_307 : decode cX15_init 307 = .ok (.iadd, 1) := by decide +kernel
theorem dX15_init_308 : decode cX15_init 308 = .ok (.aload_n 0, 1) := by decide +kernel
theorem dX15_init_309 : decode cX15_init 309 = .ok (.getfield 19, 3) := by decide +kernel
theorem dX15_init_312 : decode cX15_init 312 = .ok (.aload_n 0, 1) := by decide +kernel
theorem dX15_init_313 : decode cX15_init 313 = .ok (.getfield 46, 3) := by decide +kernel
theorem dX15_init_316 : decode cX15_init 316 = .ok (.invokevirtual 49, 3) := by decide +kernel
theorem dX15_init_319 : decode cX15_init 319 = .ok (.ifCond .eq 13, 3) := by decide +kernel
theorem dX15_init_322 : decode cX15_init 322 = .ok (.aload_n 0, 1) := by decide +kernel
theorem dX15_init_323 : decode cX15_init 323 = .ok (.getfield 46, 3) := by decide +kernel
theorem dX15_init_326 : decode cX15_init 326 = .ok (.invokestatic 53, 3) := by decide +kernel
theorem dX15_init_329 : decode cX15_init 329 = .ok (.ifCond .eq 10, 3) := by decide +kernel
theorem dX15_init_332 : decode cX15_init 332 = .ok (.aload_n 2, 1) := by decide +kernel
theorem dX15_init_333 : decode cX15_init 333 = .ok (.bipush (-2), 2) := by decide +kernel
theorem dX15_init_335 : decode cX15_init 335 = .ok (.invokevirtual 27, 3) := by decide +kernel
theorem dX15_init_338 : decode cX15_init 338 = .ok (.athrow, 1) := by decide +kernel
theorem dX15_init_339 : decode cX15_init 339 = .ok (.aload_n 0, 1) := by decide +kernel
theorem dX15_init_340 : decode cX15_init 340 = .ok (.iload 7, 2) := by decide +kernel
theorem dX15_init_342 : decode cX15_init 342 = .ok (.newarray .int, 2) := by decide +kernel
theorem dX15_init_344 : decode cX15_init 344 = .ok (.putfield 57, 3) := by decide +kernel
theorem dX15_init_347 : decode cX15_init 347 = .ok (.aload_n 0, 1) := by decide +kernel
theorem dX15_init_348 : decode cX15_init 348 = .ok (.iload 7, 2) := by decide +kernel
theorem dX15_init_350 : decode cX15_init 350 = .ok (.newarray .int, 2) := by decide +kernel
theorem dX15_init_352 : decode cX15_init 352 = .ok (.putfield 60, 3) := by decide +kernel
theorem dX15_init_355 : decode cX15_init 355 = .ok (.aload_n 0, 1) := by decide +kernel
theorem dX15_init_356 : decode cX15_init 356 = .ok (.iload 7, 2) := by decide +kernel
theorem dX15_init_358 : decode cX15_init 358 = .ok (.newarray .int, 2) := by decide +kernel
theorem dX15_init_360 : decode cX15_init 360 = .ok (.putfield 63, 3) := by decide +kernel
theorem dX15_init_363 : decode cX15_init 363 = .ok (.aload_n 0, 1) := by decide +kernel
theorem dX15_init_364 : decode cX15_init 364 = .ok (.aload_n 0, 1) := by decide +kernel
theorem dX15_init_365 : decode cX15_init 365 = .ok (.getfield 19, 3) := by decide +kernel
theorem dX15_init_368 : decode cX15_init 368 = .ok (.iconst 3, 1) := by decide +kernel
theorem dX15_init_369 : decode cX15_init 369 = .ok (.iadd, 1) := by decide +kernel
theorem dX15_init_370 : decode cX15_init 370 = .ok (.newarray .byte, 2) := by decide +kernel
theorem dX15_init_372 : decode cX15_init 372 = .ok (.putfield 66, 3) := by decide +kernel
theorem dX15_init_375 : decode cX15_init 375 = .ok (.aload_n 3, 1) := by decide +kernel
theorem dX15_init_376 : decode cX15_init 376 = .ok (.iconst 0, 1) := by decide +kernel
theorem dX15_init_377 : decode cX15_init 377 = .ok (.aload_n 0, 1) := by decide +kernel
theorem dX15_init_378 : decode cX15_init 378 = .ok (.getfield 66, 3) := by decide +kernel
theorem dX15_init_381 : decode cX15_init 381 = .ok (.iconst 0, 1) := by decide +kernel
theorem dX15_init_382 : decode cX15_init 382 = .ok (.aload_n 0, 1) := by decide +kernel
theorem dX15_init_383 : decode cX15_init 383 = .ok (.getfield 19, 3) := by decide +kernel
theorem dX15_init_386 : decode cX15_init 386 = .ok (.iconst 3, 1) := by decide +kernel
theorem dX15_init_387 : decode cX15_init 387 = .ok (.iadd, 1) := by decide +kernel
theorem dX15_init_388 : decode cX15_init 388 = .ok (.invokestatic 70, 3) := by decide +kernel
theorem dX15_init_391 : decode cX15_init 391 = .ok (.aload_n 0, 1) := by decide +kernel
theorem dX15_init_392 : decode cX15_init 392 = .ok (.aload_n 0, 1) := by decide +kernel
theorem dX15_init_393 : decode cX15_init 393 = .ok (.getfield 19, 3) := by decide +kernel
theorem dX15_init_396 : decode cX15_init 396 = .ok (.newarray .byte, 2) := by decide +kernel
theorem dX15_init_398 : decode cX15_init 398 = .ok (.putfield 76, 3) := by decide +kernel
theorem dX15_init_401 : decode cX15_init 401 = .ok (.aload_n 0, 1) := by decide +kernel
theorem dX15_init_402 : decode cX15_init 402 = .ok (.aload_n 0, 1) := by decide +kernel
theorem dX15_init_403 : decode cX15_init 403 = .ok (.getfield 19, 3) := by decide +kernel
theorem dX15_init_406 : decode cX15_init 406 = .ok (.newarray .byte, 2) := by decide +kernel
theorem dX15_init_408 : decode cX15_init 408 = .ok (.putfield 79, 3) := by decide +kernel
theorem dX15_init_411 : decode cX15_init 411 = .ok (.aload_n 0, 1) := by decide +kernel
theorem dX15_init_412 : decode cX15_init 412 = .ok (.bipush 8, 2) := by decide +kernel
theorem dX15_init_414 : decode cX15_init 414 = .ok (.aload_n 0, 1) := by decide +kernel
theorem dX15_init_415 : decode cX15_init 415 = .ok (.getfield 19, 3) := by decide +kernel
theorem dX15_init_418 : decode cX15_init 418 = .ok (.imul, 1) := by decide +kernel
theorem dX15_init_419 : decode cX15_init 419 = .ok (.aload_n 3, 1) := by decide +kernel
theorem dX15_init_420 : decode cX15_init 420 = .ok (.iconst 0, 1) := by decide +kernel
theorem dX15_init_421 : decode cX15_init 421 = .ok (.baload, 1) := by decide +kernel
theorem dX15_init_422 : decode cX15_init 422 = .ok (.sipush 255, 3) := by decide +kernel
theorem dX15_init_425 : decode cX15_init 425 = .ok (.iand, 1) := by decide +kernel
theorem dX15_init_426 : decode cX15_init 426 = .ok (.invokestatic 82, 3) := by decide +kernel
theorem dX15_init_429 : decode cX15_init 429 = .ok (.isub, 1) := by decide +kernel
theorem dX15_init_430 : decode cX15_init 430 = .ok (.bipush 24, 2) := by decide +kernel
theorem dX15_init_432 : decode cX15_init 432 = .ok (.iadd, 1) := by decide +kernel
theorem dX15_init_433 : decode cX15_init 433 = .ok (.iconst 1, 1) := by decide +kernel
theorem dX15_init_434 : decode cX15_init 434 = .ok (.isub, 1) := by decide +kernel
theorem dX15_init_435 : decode cX15_init 435 = .ok (.putfield 88, 3) := by decide +kernel
theorem dX15_init_438 : decode cX15_init 438 = .ok (.return_, 1) := by decide +kernel
abbrev cX15_publish : ByteArray := prog_13_method_8_code
def yX15_publish : MethodName := ⟨RX15, "publish", "([B)V"⟩
theorem dX15_publish_0 : decode cX15_publish 0 = .ok (.aload_n 0, 1) := by decide +kernel
theorem dX15_publish_1 : decode cX15_publish 1 = .ok (.getfield 66, 3) := by decide +kernel
theorem dX15_publish_4 : decode cX15_publish 4 = .ok (.iconst 0, 1) := by decide +kernel
theorem dX15_publish_5 : decode cX15_publish 5 = .ok (.aload_n 1, 1) := by decide +kernel
theorem dX15_publish_6 : decode cX15_publish 6 = .ok (.iconst 0, 1) := by decide +kernel
theorem dX15_publish_7 : decode cX15_publish 7 = .ok (.aload_n 0, 1) := by decide +kernel
theorem dX15_publish_8 : decode cX15_publish 8 = .ok (.getfield 19, 3) := by decide +kernel
theorem dX15_publish_11 : decode cX15_publish 11 = .ok (.iconst 3, 1) := by decide +kernel
theorem dX15_publish_12 : decode cX15_publish 12 = .ok (.iadd, 1) := by decide +kernel
theorem dX15_publish_13 : decode cX15_publish 13 = .ok (.invokestatic 70, 3) := by decide +kernel
theorem dX15_publish_16 : decode cX15_publish 16 = .ok (.return_, 1) := by decide +kernel
abbrev cX15_publics : ByteArray := prog_13_method_7_code
def yX15_publics : MethodName := ⟨RX15, "publics", "()I"⟩
theorem dX15_publics_0 : decode cX15_publics 0 = .ok (.aload_n 0, 1) := by decide +kernel
theorem dX15_publics_1 : decode cX15_publics 1 = .ok (.getfield 19, 3) := by decide +kernel
theorem dX15_publics_4 : decode cX15_publics 4 = .ok (.iconst 3, 1) := by decide +kernel
theorem dX15_publics_5 : decode cX15_publics 5 = .ok (.iadd, 1) := by decide +kernel
theorem dX15_publics_6 : decode cX15_publics 6 = .ok (.ireturn, 1) := by decide +kernel
abbrev cX15_blind : ByteArray := prog_13_method_4_code
def yX15_blind : MethodName := ⟨RX15, "blind", "()I"⟩
theorem dX15_blind_0 : decode cX15_blind 0 = .ok (.aload_n 0, 1) := by decide +kernel
theorem dX15_blind_1 : decode cX15_blind 1 = .ok (.getfield 23, 3) := by decide +kernel
theorem dX15_blind_4 : decode cX15_blind 4 = .ok (.aload_n 0, 1) := by decide +kernel
theorem dX15_blind_5 : decode cX15_blind 5 = .ok (.getfield 19, 3) := by decide +kernel
theorem dX15_blind_8 : decode cX15_blind 8 = .ok (.iadd, 1) := by decide +kernel
theorem dX15_blind_9 : decode cX15_blind 9 = .ok (.ireturn, 1) := by decide +kernel
abbrev cX15_blinds : ByteArray := prog_13_method_14_code
def yX15_blinds : MethodName := ⟨RX15, "blinds", "([B[BI[BI)[I"⟩
theorem dX15_blinds_0 : decode cX15_blinds 0 = .ok (.aload_n 0, 1) := by decide +kernel
theorem dX15_blinds_1 : decode cX15_blinds 1 = .ok (.aload_n 1, 1) := by decide +kernel
theorem dX15_blinds_2 : decode cX15_blinds 2 = .ok (.iconst 0, 1) := by decide +kernel
theorem dX15_blinds_3 : decode cX15_blinds 3 = .ok (.aload_n 2, 1) := by decide +kernel
theorem dX15_blinds_4 : decode cX15_blinds 4 = .ok (.iload_n 3, 1) := by decide +kernel
theorem dX15_blinds_5 : decode cX15_blinds 5 = .ok (.invokevirtual 128, 3) := by decide +kernel
theorem dX15_blinds_8 : decode cX15_blinds 8 = .ok (.aload_n 0, 1) := by decide +kernel
theorem dX15_blinds_9 : decode cX15_blinds 9 = .ok (.getfield 19, 3) := by decide +kernel
theorem dX15_blinds_12 : decode cX15_blinds 12 = .ok (.aload_n 0, 1) := by decide +kernel
theorem dX15_blinds_13 : decode cX15_blinds 13 = .ok (.invokevirtual 112, 3) := by decide +kernel
theorem dX15_blinds_16 : decode cX15_blinds 16 = .ok (.isub, 1) := by decide +kernel
theorem dX15_blinds_17 : decode cX15_blinds 17 = .ok (.istore 6, 2) := by decide +kernel
theorem dX15_blinds_19 : decode cX15_blinds 19 = .ok (.aload_n 0, 1) := by decide +kernel
theorem dX15_blinds_20 : decode cX15_blinds 20 = .ok (.getfield 76, 3) := by decide +kernel
theorem dX15_blinds_23 : decode cX15_blinds 23 = .ok (.iconst 0, 1) := by decide +kernel
theorem dX15_blinds_24 : decode cX15_blinds 24 = .ok (.aload_n 0, 1) := by decide +kernel
theorem dX15_blinds_25 : decode cX15_blinds 25 = .ok (.getfield 79, 3) := by decide +kernel
theorem dX15_blinds_28 : decode cX15_blinds 28 = .ok (.iconst 0, 1) := by decide +kernel
theorem dX15_blinds_29 : decode cX15_blinds 29 = .ok (.aload_n 0, 1) := by decide +kernel
theorem dX15_blinds_30 : decode cX15_blinds 30 = .ok (.getfield 19, 3) := by decide +kernel
theorem dX15_blinds_33 : decode cX15_blinds 33 = .ok (.invokestatic 70, 3) := by decide +kernel
theorem dX15_blinds_36 : decode cX15_blinds 36 = .ok (.aload_n 0, 1) := by decide +kernel
theorem dX15_blinds_37 : decode cX15_blinds 37 = .ok (.getfield 19, 3) := by decide +kernel
theorem dX15_blinds_40 : decode cX15_blinds 40 = .ok (.iconst 1, 1) := by decide +kernel
theorem dX15_blinds_41 : decode cX15_blinds 41 = .ok (.isub, 1) := by decide +kernel
theorem dX15_blinds_42 : decode cX15_blinds 42 = .ok (.istore 7, 2) := by decide +kernel
theorem dX15_blinds_44 : decode cX15_blinds 44 = .ok (.iload 7, 2) := by decide +kernel
theorem dX15_blinds_46 : decode cX15_blinds 46 = .ok (.ifCond .lt 37, 3) := by decide +kernel
theorem dX15_blinds_49 : decode cX15_blinds 49 = .ok (.aload_n 0, 1) := by decide +kernel
theorem dX15_blinds_50 : decode cX15_blinds 50 = .ok (.getfield 76, 3) := by decide +kernel
theorem dX15_blinds_53 : decode cX15_blinds 53 = .ok (.iload 7, 2) := by decide +kernel
theorem dX15_blinds_55 : decode cX15_blinds 55 = .ok (.iload 7, 2) := by decide +kernel
theorem dX15_blinds_57 : decode cX15_blinds 57 = .ok (.iload 6, 2) := by decide +kernel
theorem dX15_blinds_59 : decode cX15_blinds 59 = .ok (.if_icmp .ge 7, 3) := by decide +kernel
theorem dX15_blinds_62 : decode cX15_blinds 62 = .ok (.iconst 0, 1) := by decide +kernel
theorem dX15_blinds_63 : decode cX15_blinds 63 = .ok (.goto 13, 3) := by decide +kernel
theorem dX15_blinds_66 : decode cX15_blinds 66 = .ok (.aload_n 0, 1) := by decide +kernel
theorem dX15_blinds_67 : decode cX15_blinds 67 = .ok (.getfield 79, 3) := by decide +kernel
theorem dX15_blinds_70 : decode cX15_blinds 70 = .ok (.iload 7, 2) := by decide +kernel
theorem dX15_blinds_72 : decode cX15_blinds 72 = .ok (.iload 6, 2) := by decide +kernel
theorem dX15_blinds_74 : decode cX15_blinds 74 = .ok (.isub, 1) := by decide +kernel
theorem dX15_blinds_75 : decode cX15_blinds 75 = .ok (.baload, 1) := by decide +kernel
theorem dX15_blinds_76 : decode cX15_blinds 76 = .ok (.bastore, 1) := by decide +kernel
theorem dX15_blinds_77 : decode cX15_blinds 77 = .ok (.iinc 7 (-1), 3) := by decide +kernel
theorem dX15_blinds_80 : decode cX15_blinds 80 = .ok (.goto (-36), 3) := by decide +kernel
theorem dX15_blinds_83 : decode cX15_blinds 83 = .ok (.aload_n 0, 1) := by decide +kernel
theorem dX15_blinds_84 : decode cX15_blinds 84 = .ok (.getfield 38, 3) := by decide +kernel
theorem dX15_blinds_87 : decode cX15_blinds 87 = .ok (.aload_n 0, 1) := by decide +kernel
theorem dX15_blinds_88 : decode cX15_blinds 88 = .ok (.getfield 76, 3) := by decide +kernel
theorem dX15_blinds_91 : decode cX15_blinds 91 = .ok (.iconst 0, 1) := by decide +kernel
theorem dX15_blinds_92 : decode cX15_blinds 92 = .ok (.aload_n 0, 1) := by decide +kernel
theorem dX15_blinds_93 : decode cX15_blinds 93 = .ok (.getfield 19, 3) := by decide +kernel
theorem dX15_blinds_96 : decode cX15_blinds 96 = .ok (.aload_n 0, 1) := by decide +kernel
theorem dX15_blinds_97 : decode cX15_blinds 97 = .ok (.getfield 57, 3) := by decide +kernel
theorem dX15_blinds_100 : decode cX15_blinds 100 = .ok (.invokevirtual 49, 3) := by decide +kernel
theorem dX15_blinds_103 : decode cX15_blinds 103 = .ok (.istore 7, 2) := by decide +kernel
theorem dX15_blinds_105 : decode cX15_blinds 105 = .ok (.aload_n 0, 1) := by decide +kernel
theorem dX15_blinds_106 : decode cX15_blinds 106 = .ok (.getfield 38, 3) := by decide +kernel
theorem dX15_blinds_109 : decode cX15_blinds 109 = .ok (.getfield 131, 3) := by decide +kernel
theorem dX15_blinds_112 : decode cX15_blinds 112 = .ok (.newarray .int, 2) := by decide +kernel
theorem dX15_blinds_114 : decode cX15_blinds 114 = .ok (.astore 8, 2) := by decide +kernel
theorem dX15_blinds_116 : decode cX15_blinds 116 = .ok (.aload_n 0, 1) := by decide +kernel
theorem dX15_blinds_117 : decode cX15_blinds 117 = .ok (.getfield 38, 3) := by decide +kernel
theorem dX15_blinds_120 : decode cX15_blinds 120 = .ok (.getfield 131, 3) := by decide +kernel
theorem dX15_blinds_123 : decode cX15_blinds 123 = .ok (.newarray .int, 2) := by decide +kernel
theorem dX15_blinds_125 : decode cX15_blinds 125 = .ok (.astore 9, 2) := by decide +kernel
theorem dX15_blinds_127 : decode cX15_blinds 127 = .ok (.iload 7, 2) := by decide +kernel
theorem dX15_blinds_129 : decode cX15_blinds 129 = .ok (.ifCond .eq 62, 3) := by decide +kernel
theorem dX15_blinds_132 : decode cX15_blinds 132 = .ok (.aload_n 0, 1) := by decide +kernel
theorem dX15_blinds_133 : decode cX15_blinds 133 = .ok (.getfield 38, 3) := by decide +kernel
theorem dX15_blinds_136 : decode cX15_blinds 136 = .ok (.aload_n 0, 1) := by decide +kernel
theorem dX15_blinds_137 : decode cX15_blinds 137 = .ok (.getfield 57, 3) := by decide +kernel
theorem dX15_blinds_140 : decode cX15_blinds 140 = .ok (.aload_n 0, 1) := by decide +kernel
theorem dX15_blinds_141 : decode cX15_blinds 141 = .ok (.getfield 60, 3) := by decide +kernel
theorem dX15_blinds_144 : decode cX15_blinds 144 = .ok (.invokevirtual 133, 3) := by decide +kernel
theorem dX15_blinds_147 : decode cX15_blinds 147 = .ok (.ifCond .eq 44, 3) := by decide +kernel
theorem dX15_blinds_150 : decode cX15_blinds 150 = .ok (.aload_n 0, 1) := by decide +kernel
theorem dX15_blinds_151 : decode cX15_blinds 151 = .ok (.getfield 38, 3) := by decide +kernel
theorem dX15_blinds_154 : decode cX15_blinds 154 = .ok (.aload_n 2, 1) := by decide +kernel
theorem dX15_blinds_155 : decode cX15_blinds 155 = .ok (.iload_n 3, 1) := by decide +kernel
theorem dX15_blinds_156 : decode cX15_blinds 156 = .ok (.aload_n 0, 1) := by decide +kernel
theorem dX15_blinds_157 : decode cX15_blinds 157 = .ok (.getfield 23, 3) := by decide +kernel
theorem dX15_blinds_160 : decode cX15_blinds 160 = .ok (.iadd, 1) := by decide +kernel
theorem dX15_blinds_161 : decode cX15_blinds 161 = .ok (.aload_n 0, 1) := by decide +kernel
theorem dX15_blinds_162 : decode cX15_blinds 162 = .ok (.getfield 19, 3) := by decide +kernel
theorem dX15_blinds_165 : decode cX15_blinds 165 = .ok (.aload 9, 2) := by decide +kernel
theorem dX15_blinds_167 : decode cX15_blinds 167 = .ok (.invokevirtual 49, 3) := by decide +kernel
theorem dX15_blinds_170 : decode cX15_blinds 170 = .ok (.ifCond .eq 21, 3) := by decide +kernel
theorem dX15_blinds_173 : decode cX15_blinds 173 = .ok (.aload_n 0, 1) := by decide +kernel
theorem dX15_blinds_174 : decode cX15_blinds 174 = .ok (.getfield 38, 3) := by decide +kernel
theorem dX15_blinds_177 : decode cX15_blinds 177 = .ok (.aload 9, 2) := by decide +kernel
theorem dX15_blinds_179 : decode cX15_blinds 179 = .ok (.aload 8, 2) := by decide +kernel
theorem dX15_blinds_181 : decode cX15_blinds 181 = .ok (.invokevirtual 133, 3) := by decide +kernel
theorem dX15_blinds_184 : decode cX15_blinds 184 = .ok (.ifCond .eq 7, 3) := by decide +kernel
theorem dX15_blinds_187 : decode cX15_blinds 187 = .ok (.iconst 1, 1) := by decide +kernel
theorem dX15_blinds_188 : decode cX15_blinds 188 = .ok (.goto 4, 3) := by decide +kernel
theorem dX15_blinds_191 : decode cX15_blinds 191 = .ok (.iconst 0, 1) := by decide +kernel
theorem dX15_blinds_192 : decode cX15_blinds 192 = .ok (.istore 10, 2) := by decide +kernel
theorem dX15_blinds_194 : decode cX15_blinds 194 = .ok (.iload 10, 2) := by decide +kernel
theorem dX15_blinds_196 : decode cX15_blinds 196 = .ok (.ifCond .ne 13, 3) := by decide +kernel
theorem dX15_blinds_199 : decode cX15_blinds 199 = .ok (.aload_n 0, 1) := by decide +kernel
theorem dX15_blinds_200 : decode cX15_blinds 200 = .ok (.getfield 15, 3) := by decide +kernel
theorem dX15_blinds_203 : decode cX15_blinds 203 = .ok (.bipush (-4), 2) := by decide +kernel
theorem dX15_blinds_205 : decode cX15_blinds 205 = .ok (.invokevirtual 27, 3) := by decide +kernel
theorem dX15_blinds_208 : decode cX15_blinds 208 = .ok (.athrow, 1) := by decide +kernel
theorem dX15_blinds_209 : decode cX15_blinds 209 = .ok (.aload_n 0, 1) := by decide +kernel
theorem dX15_blinds_210 : decode cX15_blinds 210 = .ok (.getfield 38, 3) := by decide +kernel
theorem dX15_blinds_213 : decode cX15_blinds 213 = .ok (.aload 9, 2) := by decide +kernel
theorem dX15_blinds_215 : decode cX15_blinds 215 = .ok (.aload 9, 2) := by decide +kernel
theorem dX15_blinds_217 : decode cX15_blinds 217 = .ok (.invokevirtual 137, 3) := by decide +kernel
theorem dX15_blinds_220 : decode cX15_blinds 220 = .ok (.aload_n 0, 1) := by decide +kernel
theorem dX15_blinds_221 : decode cX15_blinds 221 = .ok (.getfield 38, 3) := by decide +kernel
theorem dX15_blinds_224 : decode cX15_blinds 224 = .ok (.aload 9, 2) := by decide +kernel
theorem dX15_blinds_226 : decode cX15_blinds 226 = .ok (.aload_n 0, 1) := by decide +kernel
theorem dX15_blinds_227 : decode cX15_blinds 227 = .ok (.getfield 42, 3) := by decide +kernel
theorem dX15_blinds_230 : decode cX15_blinds 230 = .ok (.aload_n 0, 1) := by decide +kernel
theorem dX15_blinds_231 : decode cX15_blinds 231 = .ok (.getfield 60, 3) := by decide +kernel
theorem dX15_blinds_234 : decode cX15_blinds 234 = .ok (.invokevirtual 141, 3) := by decide +kernel
theorem dX15_blinds_237 : decode cX15_blinds 237 = .ok (.aload_n 0, 1) := by decide +kernel
theorem dX15_blinds_238 : decode cX15_blinds 238 = .ok (.getfield 38, 3) := by decide +kernel
theorem dX15_blinds_241 : decode cX15_blinds 241 = .ok (.aload_n 0, 1) := by decide +kernel
theorem dX15_blinds_242 : decode cX15_blinds 242 = .ok (.getfield 57, 3) := by decide +kernel
theorem dX15_blinds_245 : decode cX15_blinds 245 = .ok (.aload_n 0, 1) := by decide +kernel
theorem dX15_blinds_246 : decode cX15_blinds 246 = .ok (.getfield 60, 3) := by decide +kernel
theorem dX15_blinds_249 : decode cX15_blinds 249 = .ok (.aload_n 0, 1) := by decide +kernel
theorem dX15_blinds_250 : decode cX15_blinds 250 = .ok (.getfield 63, 3) := by decide +kernel
theorem dX15_blinds_253 : decode cX15_blinds 253 = .ok (.invokevirtual 145, 3) := by decide +kernel
theorem dX15_blinds_256 : decode cX15_blinds 256 = .ok (.aload_n 0, 1) := by decide +kernel
theorem dX15_blinds_257 : decode cX15_blinds 257 = .ok (.getfield 63, 3) := by decide +kernel
theorem dX15_blinds_260 : decode cX15_blinds 260 = .ok (.aload 4, 2) := by decide +kernel
theorem dX15_blinds_262 : decode cX15_blinds 262 = .ok (.iload 5, 2) := by decide +kernel
theorem dX15_blinds_264 : decode cX15_blinds 264 = .ok (.aload_n 0, 1) := by decide +kernel
theorem dX15_blinds_265 : decode cX15_blinds 265 = .ok (.getfield 19, 3) := by decide +kernel
theorem dX15_blinds_268 : decode cX15_blinds 268 = .ok (.invokestatic 124, 3) := by decide +kernel
theorem dX15_blinds_271 : decode cX15_blinds 271 = .ok (.aload 8, 2) := by decide +kernel
theorem dX15_blinds_273 : decode cX15_blinds 273 = .ok (.areturn, 1) := by decide +kernel
abbrev cX15_encode : ByteArray := prog_13_method_12_code
def yX15_encode : MethodName := ⟨RX15, "encode", "([BI[BI)V"⟩
theorem dX15_encode_0 : decode cX15_encode 0 = .ok (.aload_n 0, 1) := by decide +kernel
theorem dX15_encode_1 : decode cX15_encode 1 = .ok (.invokevirtual 112, 3) := by decide +kernel
theorem dX15_encode_4 : decode cX15_encode 4 = .ok (.istore 5, 2) := by decide +kernel
theorem dX15_encode_6 : decode cX15_encode 6 = .ok (.iload 5, 2) := by decide +kernel
theorem dX15_encode_8 : decode cX15_encode 8 = .ok (.bipush 48, 2) := by decide +kernel
theorem dX15_encode_10 : decode cX15_encode 10 = .ok (.isub, 1) := by decide +kernel
theorem dX15_encode_11 : decode cX15_encode 11 = .ok (.iconst 1, 1) := by decide +kernel
theorem dX15_encode_12 : decode cX15_encode 12 = .ok (.isub, 1) := by decide +kernel
theorem dX15_encode_13 : decode cX15_encode 13 = .ok (.istore 6, 2) := by decide +kernel
theorem dX15_encode_15 : decode cX15_encode 15 = .ok (.aload_n 0, 1) := by decide +kernel
theorem dX15_encode_16 : decode cX15_encode 16 = .ok (.aload_n 1, 1) := by decide +kernel
theorem dX15_encode_17 : decode cX15_encode 17 = .ok (.iload_n 2, 1) := by decide +kernel
theorem dX15_encode_18 : decode cX15_encode 18 = .ok (.aload_n 3, 1) := by decide +kernel
theorem dX15_encode_19 : decode cX15_encode 19 = .ok (.iload 4, 2) := by decide +kernel
theorem dX15_encode_21 : decode cX15_encode 21 = .ok (.invokevirtual 116, 3) := by decide +kernel
theorem dX15_encode_24 : decode cX15_encode 24 = .ok (.astore 7, 2) := by decide +kernel
theorem dX15_encode_26 : decode cX15_encode 26 = .ok (.iconst 0, 1) := by decide +kernel
theorem dX15_encode_27 : decode cX15_encode 27 = .ok (.istore 8, 2) := by decide +kernel
theorem dX15_encode_29 : decode cX15_encode 29 = .ok (.iload 8, 2) := by decide +kernel
theorem dX15_encode_31 : decode cX15_encode 31 = .ok (.aload_n 0, 1) := by decide +kernel
theorem dX15_encode_32 : decode cX15_encode 32 = .ok (.getfield 19, 3) := by decide +kernel
theorem dX15_encode_35 : decode cX15_encode 35 = .ok (.if_icmp .ge 17, 3) := by decide +kernel
theorem dX15_encode_38 : decode cX15_encode 38 = .ok (.aload_n 0, 1) := by decide +kernel
theorem dX15_encode_39 : decode cX15_encode 39 = .ok (.getfield 76, 3) := by decide +kernel
theorem dX15_encode_42 : decode cX15_encode 42 = .ok (.iload 8, 2) := by decide +kernel
theorem dX15_encode_44 : decode cX15_encode 44 = .ok (.iconst 0, 1) := by decide +kernel
theorem dX15_encode_45 : decode cX15_encode 45 = .ok (.bastore, 1) := by decide +kernel
theorem dX15_encode_46 : decode cX15_encode 46 = .ok (.iinc 8 1, 3) := by decide +kernel
theorem dX15_encode_49 : decode cX15_encode 49 = .ok (.goto (-20), 3) := by decide +kernel
theorem dX15_encode_52 : decode cX15_encode 52 = .ok (.aload 7, 2) := by decide +kernel
theorem dX15_encode_54 : decode cX15_encode 54 = .ok (.iconst 0, 1) := by decide +kernel
theorem dX15_encode_55 : decode cX15_encode 55 = .ok (.aload_n 0, 1) := by decide +kernel
theorem dX15_encode_56 : decode cX15_encode 56 = .ok (.getfield 76, 3) := by decide +kernel
theorem dX15_encode_59 : decode cX15_encode 59 = .ok (.iload 6, 2) := by decide +kernel
theorem dX15_encode_61 : decode cX15_encode 61 = .ok (.bipush 48, 2) := by decide +kernel
theorem dX15_encode_63 : decode cX15_encode 63 = .ok (.invokestatic 70, 3) := by decide +kernel
theorem dX15_encode_66 : decode cX15_encode 66 = .ok (.aload_n 3, 1) := by decide +kernel
theorem dX15_encode_67 : decode cX15_encode 67 = .ok (.iload 4, 2) := by decide +kernel
theorem dX15_encode_69 : decode cX15_encode 69 = .ok (.aload_n 0, 1) := by decide +kernel
theorem dX15_encode_70 : decode cX15_encode 70 = .ok (.getfield 76, 3) := by decide +kernel
theorem dX15_encode_73 : decode cX15_encode 73 = .ok (.iload 6, 2) := by decide +kernel
theorem dX15_encode_75 : decode cX15_encode 75 = .ok (.aload_n 0, 1) := by decide +kernel
theorem dX15_encode_76 : decode cX15_encode 76 = .ok (.getfield 23, 3) := by decide +kernel
theorem dX15_encode_79 : decode cX15_encode 79 = .ok (.isub, 1) := by decide +kernel
theorem dX15_encode_80 : decode cX15_encode 80 = .ok (.aload_n 0, 1) := by decide +kernel
theorem dX15_encode_81 : decode cX15_encode 81 = .ok (.getfield 23, 3) := by decide +kernel
theorem dX15_encode_84 : decode cX15_encode 84 = .ok (.invokestatic 70, 3) := by decide +kernel
theorem dX15_encode_87 : decode cX15_encode 87 = .ok (.aload_n 0, 1) := by decide +kernel
theorem dX15_encode_88 : decode cX15_encode 88 = .ok (.getfield 76, 3) := by decide +kernel
theorem dX15_encode_91 : decode cX15_encode 91 = .ok (.iload 6, 2) := by decide +kernel
theorem dX15_encode_93 : decode cX15_encode 93 = .ok (.aload_n 0, 1) := by decide +kernel
theorem dX15_encode_94 : decode cX15_encode 94 = .ok (.getfield 23, 3) := by decide +kernel
theorem dX15_encode_97 : decode cX15_encode 97 = .ok (.isub, 1) := by decide +kernel
theorem dX15_encode_98 : decode cX15_encode 98 = .ok (.iconst 1, 1) := by decide +kernel
theorem dX15_encode_99 : decode cX15_encode 99 = .ok (.isub, 1) := by decide +kernel
theorem dX15_encode_100 : decode cX15_encode 100 = .ok (.iconst 1, 1) := by decide +kernel
theorem dX15_encode_101 : decode cX15_encode 101 = .ok (.bastore, 1) := by decide +kernel
theorem dX15_encode_102 : decode cX15_encode 102 = .ok (.aload_n 0, 1) := by decide +kernel
theorem dX15_encode_103 : decode cX15_encode 103 = .ok (.getfield 76, 3) := by decide +kernel
theorem dX15_encode_106 : decode cX15_encode 106 = .ok (.iload 5, 2) := by decide +kernel
theorem dX15_encode_108 : decode cX15_encode 108 = .ok (.iconst 1, 1) := by decide +kernel
theorem dX15_encode_109 : decode cX15_encode 109 = .ok (.isub, 1) := by decide +kernel
theorem dX15_encode_110 : decode cX15_encode 110 = .ok (.bipush (-68), 2) := by decide +kernel
theorem dX15_encode_112 : decode cX15_encode 112 = .ok (.bastore, 1) := by decide +kernel
theorem dX15_encode_113 : decode cX15_encode 113 = .ok (.aload_n 0, 1) := by decide +kernel
theorem dX15_encode_114 : decode cX15_encode 114 = .ok (.aload_n 0, 1) := by decide +kernel
theorem dX15_encode_115 : decode cX15_encode 115 = .ok (.getfield 76, 3) := by decide +kernel
theorem dX15_encode_118 : decode cX15_encode 118 = .ok (.iload 6, 2) := by decide +kernel
theorem dX15_encode_120 : decode cX15_encode 120 = .ok (.aload_n 0, 1) := by decide +kernel
theorem dX15_encode_121 : decode cX15_encode 121 = .ok (.getfield 76, 3) := by decide +kernel
theorem dX15_encode_124 : decode cX15_encode 124 = .ok (.iload 6, 2) := by decide +kernel
theorem dX15_encode_126 : decode cX15_encode 126 = .ok (.invokevirtual 120, 3) := by decide +kernel
theorem dX15_encode_129 : decode cX15_encode 129 = .ok (.aload_n 0, 1) := by decide +kernel
theorem dX15_encode_130 : decode cX15_encode 130 = .ok (.getfield 76, 3) := by decide +kernel
theorem dX15_encode_133 : decode cX15_encode 133 = .ok (.iconst 0, 1) := by decide +kernel
theorem dX15_encode_134 : decode cX15_encode 134 = .ok (.dup2, 1) := by decide +kernel
theorem dX15_encode_135 : decode cX15_encode 135 = .ok (.baload, 1) := by decide +kernel
theorem dX15_encode_136 : decode cX15_encode 136 = .ok (.sipush 255, 3) := by decide +kernel
theorem dX15_encode_139 : decode cX15_encode 139 = .ok (.bipush 8, 2) := by decide +kernel
theorem dX15_encode_141 : decode cX15_encode 141 = .ok (.iload 5, 2) := by decide +kernel
theorem dX15_encode_143 : decode cX15_encode 143 = .ok (.imul, 1) := by decide +kernel
theorem dX15_encode_144 : decode cX15_encode 144 = .ok (.aload_n 0, 1) := by decide +kernel
theorem dX15_encode_145 : decode cX15_encode 145 = .ok (.getfield 88, 3) := by decide +kernel
theorem dX15_encode_148 : decode cX15_encode 148 = .ok (.isub, 1) := by decide +kernel
theorem dX15_encode_149 : decode cX15_encode 149 = .ok (.ishr, 1) := by decide +kernel
theorem dX15_encode_150 : decode cX15_encode 150 = .ok (.iand, 1) := by decide +kernel
theorem dX15_encode_151 : decode cX15_encode 151 = .ok (.i2b, 1) := by decide +kernel
theorem dX15_encode_152 : decode cX15_encode 152 = .ok (.bastore, 1) := by decide +kernel
theorem dX15_encode_153 : decode cX15_encode 153 = .ok (.return_, 1) := by decide +kernel
abbrev cX15_length : ByteArray := prog_13_method_11_code
def yX15_length : MethodName := ⟨RX15, "length", "()I"⟩
theorem dX15_length_0 : decode cX15_length 0 = .ok (.aload_n 0, 1) := by decide +kernel
theorem dX15_length_1 : decode cX15_length 1 = .ok (.getfield 88, 3) := by decide +kernel
theorem dX15_length_4 : decode cX15_length 4 = .ok (.bipush 7, 2) := by decide +kernel
theorem dX15_length_6 : decode cX15_length 6 = .ok (.iadd, 1) := by decide +kernel
theorem dX15_length_7 : decode cX15_length 7 = .ok (.bipush 8, 2) := by decide +kernel
theorem dX15_length_9 : decode cX15_length 9 = .ok (.idiv, 1) := by decide +kernel
theorem dX15_length_10 : decode cX15_length 10 = .ok (.ireturn, 1) := by decide +kernel
abbrev cX15_salted : ByteArray := prog_13_method_9_code
def yX15_salted : MethodName := ⟨RX15, "salted", "([BI[BI)[B"⟩
theorem dX15_salted_0 : decode cX15_salted 0 = .ok (.aload_n 0, 1) := by decide +kernel
theorem dX15_salted_1 : decode cX15_salted 1 = .ok (.getfield 9, 3) := by decide +kernel
theorem dX15_salted_4 : decode cX15_salted 4 = .ok (.invokevirtual 91, 3) := by decide +kernel
theorem dX15_salted_7 : decode cX15_salted 7 = .ok (.aload_n 1, 1) := by decide +kernel
theorem dX15_salted_8 : decode cX15_salted 8 = .ok (.iload_n 2, 1) := by decide +kernel
theorem dX15_salted_9 : decode cX15_salted 9 = .ok (.bipush 98, 2) := by decide +kernel
theorem dX15_salted_11 : decode cX15_salted 11 = .ok (.invokevirtual 97, 3) := by decide +kernel
theorem dX15_salted_14 : decode cX15_salted 14 = .ok (.invokevirtual 103, 3) := by decide +kernel
theorem dX15_salted_17 : decode cX15_salted 17 = .ok (.iconst 0, 1) := by decide +kernel
theorem dX15_salted_18 : decode cX15_salted 18 = .ok (.aload_n 0, 1) := by decide +kernel
theorem dX15_salted_19 : decode cX15_salted 19 = .ok (.getfield 79, 3) := by decide +kernel
theorem dX15_salted_22 : decode cX15_salted 22 = .ok (.iconst 0, 1) := by decide +kernel
theorem dX15_salted_23 : decode cX15_salted 23 = .ok (.bipush 48, 2) := by decide +kernel
theorem dX15_salted_25 : decode cX15_salted 25 = .ok (.invokestatic 70, 3) := by decide +kernel
theorem dX15_salted_28 : decode cX15_salted 28 = .ok (.aload_n 0, 1) := by decide +kernel
theorem dX15_salted_29 : decode cX15_salted 29 = .ok (.getfield 9, 3) := by decide +kernel
theorem dX15_salted_32 : decode cX15_salted 32 = .ok (.invokevirtual 91, 3) := by decide +kernel
theorem dX15_salted_35 : decode cX15_salted 35 = .ok (.pop, 1) := by decide +kernel
theorem dX15_salted_36 : decode cX15_salted 36 = .ok (.iconst 0, 1) := by decide +kernel
theorem dX15_salted_37 : decode cX15_salted 37 = .ok (.istore 5, 2) := by decide +kernel
theorem dX15_salted_39 : decode cX15_salted 39 = .ok (.iload 5, 2) := by decide +kernel
theorem dX15_salted_41 : decode cX15_salted 41 = .ok (.bipush 8, 2) := by decide +kernel
theorem dX15_salted_43 : decode cX15_salted 43 = .ok (.if_icmp .ge 18, 3) := by decide +kernel
theorem dX15_salted_46 : decode cX15_salted 46 = .ok (.aload_n 0, 1) := by decide +kernel
theorem dX15_salted_47 : decode cX15_salted 47 = .ok (.getfield 9, 3) := by decide +kernel
theorem dX15_salted_50 : decode cX15_salted 50 = .ok (.iconst 0, 1) := by decide +kernel
theorem dX15_salted_51 : decode cX15_salted 51 = .ok (.invokevirtual 107, 3) := by decide +kernel
theorem dX15_salted_54 : decode cX15_salted 54 = .ok (.pop, 1) := by decide +kernel
theorem dX15_salted_55 : decode cX15_salted 55 = .ok (.iinc 5 1, 3) := by decide +kernel
theorem dX15_salted_58 : decode cX15_salted 58 = .ok (.goto (-19), 3) := by decide +kernel
theorem dX15_salted_61 : decode cX15_salted 61 = .ok (.aload_n 0, 1) := by decide +kernel
theorem dX15_salted_62 : decode cX15_salted 62 = .ok (.getfield 9, 3) := by decide +kernel
theorem dX15_salted_65 : decode cX15_salted 65 = .ok (.aload_n 0, 1) := by decide +kernel
theorem dX15_salted_66 : decode cX15_salted 66 = .ok (.getfield 79, 3) := by decide +kernel
theorem dX15_salted_69 : decode cX15_salted 69 = .ok (.iconst 0, 1) := by decide +kernel
theorem dX15_salted_70 : decode cX15_salted 70 = .ok (.bipush 48, 2) := by decide +kernel
theorem dX15_salted_72 : decode cX15_salted 72 = .ok (.invokevirtual 110, 3) := by decide +kernel
theorem dX15_salted_75 : decode cX15_salted 75 = .ok (.aload_n 3, 1) := by decide +kernel
theorem dX15_salted_76 : decode cX15_salted 76 = .ok (.iload 4, 2) := by decide +kernel
theorem dX15_salted_78 : decode cX15_salted 78 = .ok (.aload_n 0, 1) := by decide +kernel
theorem dX15_salted_79 : decode cX15_salted 79 = .ok (.getfield 23, 3) := by decide +kernel
theorem dX15_salted_82 : decode cX15_salted 82 = .ok (.invokevirtual 97, 3) := by decide +kernel
theorem dX15_salted_85 : decode cX15_salted 85 = .ok (.invokevirtual 103, 3) := by decide +kernel
theorem dX15_salted_88 : decode cX15_salted 88 = .ok (.areturn, 1) := by decide +kernel
abbrev cX15_mask : ByteArray := prog_13_method_10_code
def yX15_mask : MethodName := ⟨RX15, "mask", "([BI[BI)V"⟩
theorem dX15_mask_0 : decode cX15_mask 0 = .ok (.iconst 0, 1) := by decide +kernel
theorem dX15_mask_1 : decode cX15_mask 1 = .ok (.istore 5, 2) := by decide +kernel
theorem dX15_mask_3 : decode cX15_mask 3 = .ok (.bipush 48, 2) := by decide +kernel
theorem dX15_mask_5 : decode cX15_mask 5 = .ok (.iload 5, 2) := by decide +kernel
theorem dX15_mask_7 : decode cX15_mask 7 = .ok (.imul, 1) := by decide +kernel
theorem dX15_mask_8 : decode cX15_mask 8 = .ok (.iload 4, 2) := by decide +kernel
theorem dX15_mask_10 : decode cX15_mask 10 = .ok (.if_icmp .ge 105, 3) := by decide +kernel
theorem dX15_mask_13 : decode cX15_mask 13 = .ok (.aload_n 0, 1) := by decide +kernel
theorem dX15_mask_14 : decode cX15_mask 14 = .ok (.getfield 9, 3) := by decide +kernel
theorem dX15_mask_17 : decode cX15_mask 17 = .ok (.invokevirtual 91, 3) := by decide +kernel
theorem dX15_mask_20 : decode cX15_mask 20 = .ok (.aload_n 1, 1) := by decide +kernel
theorem dX15_mask_21 : decode cX15_mask 21 = .ok (.iload_n 2, 1) := by decide +kernel
theorem dX15_mask_22 : decode cX15_mask 22 = .ok (.bipush 48, 2) := by decide +kernel
theorem dX15_mask_24 : decode cX15_mask 24 = .ok (.invokevirtual 97, 3) := by decide +kernel
theorem dX15_mask_27 : decode cX15_mask 27 = .ok (.iload 5, 2) := by decide +kernel
theorem dX15_mask_29 : decode cX15_mask 29 = .ok (.bipush 24, 2) := by decide +kernel
theorem dX15_mask_31 : decode cX15_mask 31 = .ok (.ishr, 1) := by decide +kernel
theorem dX15_mask_32 : decode cX15_mask 32 = .ok (.invokevirtual 111, 3) := by decide +kernel
theorem dX15_mask_35 : decode cX15_mask 35 = .ok (.iload 5, 2) := by decide +kernel
theorem dX15_mask_37 : decode cX15_mask 37 = .ok (.bipush 16, 2) := by decide +kernel
theorem dX15_mask_39 : decode cX15_mask 39 = .ok (.ishr, 1) := by decide +kernel
theorem dX15_mask_40 : decode cX15_mask 40 = .ok (.invokevirtual 111, 3) := by decide +kernel
theorem dX15_mask_43 : decode cX15_mask 43 = .ok (.iload 5, 2) := by decide +kernel
theorem dX15_mask_45 : decode cX15_mask 45 = .ok (.bipush 8, 2) := by decide +kernel
theorem dX15_mask_47 : decode cX15_mask 47 = .ok (.ishr, 1) := by decide +kernel
theorem dX15_mask_48 : decode cX15_mask 48 = .ok (.invokevirtual 111, 3) := by decide +kernel
theorem dX15_mask_51 : decode cX15_mask 51 = .ok (.iload 5, 2) := by decide +kernel
theorem dX15_mask_53 : decode cX15_mask 53 = .ok (.invokevirtual 111, 3) := by decide +kernel
theorem dX15_mask_56 : decode cX15_mask 56 = .ok (.invokevirtual 103, 3) := by decide +kernel
theorem dX15_mask_59 : decode cX15_mask 59 = .ok (.astore 6, 2) := by decide +kernel
theorem dX15_mask_61 : decode cX15_mask 61 = .ok (.iconst 0, 1) := by decide +kernel
theorem dX15_mask_62 : decode cX15_mask 62 = .ok (.istore 7, 2) := by decide +kernel
theorem dX15_mask_64 : decode cX15_mask 64 = .ok (.iload 7, 2) := by decide +kernel
theorem dX15_mask_66 : decode cX15_mask 66 = .ok (.bipush 48, 2) := by decide +kernel
theorem dX15_mask_68 : decode cX15_mask 68 = .ok (.if_icmp .ge 41, 3) := by decide +kernel
theorem dX15_mask_71 : decode cX15_mask 71 = .ok (.bipush 48, 2) := by decide +kernel
theorem dX15_mask_73 : decode cX15_mask 73 = .ok (.iload 5, 2) := by decide +kernel
theorem dX15_mask_75 : decode cX15_mask 75 = .ok (.imul, 1) := by decide +kernel
theorem dX15_mask_76 : decode cX15_mask 76 = .ok (.iload 7, 2) := by decide +kernel
theorem dX15_mask_78 : decode cX15_mask 78 = .ok (.iadd, 1) := by decide +kernel
theorem dX15_mask_79 : decode cX15_mask 79 = .ok (.iload 4, 2) := by decide +kernel
theorem dX15_mask_81 : decode cX15_mask 81 = .ok (.if_icmp .ge 28, 3) := by decide +kernel
theorem dX15_mask_84 : decode cX15_mask 84 = .ok (.aload_n 3, 1) := by decide +kernel
theorem dX15_mask_85 : decode cX15_mask 85 = .ok (.bipush 48, 2) := by decide +kernel
theorem dX15_mask_87 : decode cX15_mask 87 = .ok (.iload 5, 2) := by decide +kernel
theorem dX15_mask_89 : decode cX15_mask 89 = .ok (.imul, 1) := by decide +kernel
theorem dX15_mask_90 : decode cX15_mask 90 = .ok (.iload 7, 2) := by decide +kernel
theorem dX15_mask_92 : decode cX15_mask 92 = .ok (.iadd, 1) := by decide +kernel
theorem dX15_mask_93 : decode cX15_mask 93 = .ok (.dup2, 1) := by decide +kernel
theorem dX15_mask_94 : decode cX15_mask 94 = .ok (.baload, 1) := by decide +kernel
theorem dX15_mask_95 : decode cX15_mask 95 = .ok (.aload 6, 2) := by decide +kernel
theorem dX15_mask_97 : decode cX15_mask 97 = .ok (.iload 7, 2) := by decide +kernel
theorem dX15_mask_99 : decode cX15_mask 99 = .ok (.baload, 1) := by decide +kernel
theorem dX15_mask_100 : decode cX15_mask 100 = .ok (.ixor, 1) := by decide +kernel
theorem dX15_mask_101 : decode cX15_mask 101 = .ok (.i2b, 1) := by decide +kernel
theorem dX15_mask_102 : decode cX15_mask 102 = .ok (.bastore, 1) := by decide +kernel
theorem dX15_mask_103 : decode cX15_mask 103 = .ok (.iinc 7 1, 3) := by decide +kernel
theorem dX15_mask_106 : decode cX15_mask 106 = .ok (.goto (-42), 3) := by decide +kernel
theorem dX15_mask_109 : decode cX15_mask 109 = .ok (.iinc 5 1, 3) := by decide +kernel
theorem dX15_mask_112 : decode cX15_mask 112 = .ok (.goto (-109), 3) := by decide +kernel
theorem dX15_mask_115 : decode cX15_mask 115 = .ok (.return_, 1) := by decide +kernel
abbrev cX15_blinded : ByteArray := prog_13_method_2_code
def yX15_blinded : MethodName := ⟨RX15, "blinded", "()I"⟩
theorem dX15_blinded_0 : decode cX15_blinded 0 = .ok (.aload_n 0, 1) := by decide +kernel
theorem dX15_blinded_1 : decode cX15_blinded 1 = .ok (.getfield 19, 3) := by decide +kernel
theorem dX15_blinded_4 : decode cX15_blinded 4 = .ok (.ireturn, 1) := by decide +kernel
abbrev cX15_chance : ByteArray := prog_13_method_5_code
def yX15_chance : MethodName := ⟨RX15, "chance", "()I"⟩
theorem dX15_chance_0 : decode cX15_chance 0 = .ok (.iconst 0, 1) := by decide +kernel
theorem dX15_chance_1 : decode cX15_chance 1 = .ok (.ireturn, 1) := by decide +kernel
abbrev cX15_issues : ByteArray := prog_13_method_15_code
def yX15_issues : MethodName := ⟨RX15, "issues", "([BII[B)V"⟩
theorem dX15_issues_0 : decode cX15_issues 0 = .ok (.aload_n 0, 1) := by decide +kernel
theorem dX15_issues_1 : decode cX15_issues 1 = .ok (.getfield 38, 3) := by decide +kernel
theorem dX15_issues_4 : decode cX15_issues 4 = .ok (.aload_n 1, 1) := by decide +kernel
theorem dX15_issues_5 : decode cX15_issues 5 = .ok (.iload_n 2, 1) := by decide +kernel
theorem dX15_issues_6 : decode cX15_issues 6 = .ok (.aload_n 0, 1) := by decide +kernel
theorem dX15_issues_7 : decode cX15_issues 7 = .ok (.getfield 19, 3) := by decide +kernel
theorem dX15_issues_10 : decode cX15_issues 10 = .ok (.aload_n 0, 1) := by decide +kernel
theorem dX15_issues_11 : decode cX15_issues 11 = .ok (.getfield 57, 3) := by decide +kernel
theorem dX15_issues_14 : decode cX15_issues 14 = .ok (.invokevirtual 49, 3) := by decide +kernel
theorem dX15_issues_17 : decode cX15_issues 17 = .ok (.ifCond .ne 13, 3) := by decide +kernel
theorem dX15_issues_20 : decode cX15_issues 20 = .ok (.aload_n 0, 1) := by decide +kernel
theorem dX15_issues_21 : decode cX15_issues 21 = .ok (.getfield 15, 3) := by decide +kernel
theorem dX15_issues_24 : decode cX15_issues 24 = .ok (.bipush (-4), 2) := by decide +kernel
theorem dX15_issues_26 : decode cX15_issues 26 = .ok (.invokevirtual 27, 3) := by decide +kernel
theorem dX15_issues_29 : decode cX15_issues 29 = .ok (.athrow, 1) := by decide +kernel
theorem dX15_issues_30 : decode cX15_issues 30 = .ok (.aload_n 0, 1) := by decide +kernel
theorem dX15_issues_31 : decode cX15_issues 31 = .ok (.getfield 38, 3) := by decide +kernel
theorem dX15_issues_34 : decode cX15_issues 34 = .ok (.aload_n 0, 1) := by decide +kernel
theorem dX15_issues_35 : decode cX15_issues 35 = .ok (.getfield 57, 3) := by decide +kernel
theorem dX15_issues_38 : decode cX15_issues 38 = .ok (.aload_n 0, 1) := by decide +kernel
theorem dX15_issues_39 : decode cX15_issues 39 = .ok (.getfield 60, 3) := by decide +kernel
theorem dX15_issues_42 : decode cX15_issues 42 = .ok (.invokevirtual 137, 3) := by decide +kernel
theorem dX15_issues_45 : decode cX15_issues 45 = .ok (.aload_n 0, 1) := by decide +kernel
theorem dX15_issues_46 : decode cX15_issues 46 = .ok (.getfield 38, 3) := by decide +kernel
theorem dX15_issues_49 : decode cX15_issues 49 = .ok (.aload_n 0, 1) := by decide +kernel
theorem dX15_issues_50 : decode cX15_issues 50 = .ok (.getfield 60, 3) := by decide +kernel
theorem dX15_issues_53 : decode cX15_issues 53 = .ok (.aload_n 0, 1) := by decide +kernel
theorem dX15_issues_54 : decode cX15_issues 54 = .ok (.getfield 46, 3) := by decide +kernel
theorem dX15_issues_57 : decode cX15_issues 57 = .ok (.aload_n 0, 1) := by decide +kernel
theorem dX15_issues_58 : decode cX15_issues 58 = .ok (.getfield 63, 3) := by decide +kernel
theorem dX15_issues_61 : decode cX15_issues 61 = .ok (.invokevirtual 141, 3) := by decide +kernel
theorem dX15_issues_64 : decode cX15_issues 64 = .ok (.aload_n 0, 1) := by decide +kernel
theorem dX15_issues_65 : decode cX15_issues 65 = .ok (.getfield 38, 3) := by decide +kernel
theorem dX15_issues_68 : decode cX15_issues 68 = .ok (.aload_n 0, 1) := by decide +kernel
theorem dX15_issues_69 : decode cX15_issues 69 = .ok (.getfield 63, 3) := by decide +kernel
theorem dX15_issues_72 : decode cX15_issues 72 = .ok (.aload_n 0, 1) := by decide +kernel
theorem dX15_issues_73 : decode cX15_issues 73 = .ok (.getfield 42, 3) := by decide +kernel
theorem dX15_issues_76 : decode cX15_issues 76 = .ok (.aload_n 0, 1) := by decide +kernel
theorem dX15_issues_77 : decode cX15_issues 77 = .ok (.getfield 60, 3) := by decide +kernel
theorem dX15_issues_80 : decode cX15_issues 80 = .ok (.invokevirtual 141, 3) := by decide +kernel
theorem dX15_issues_83 : decode cX15_issues 83 = .ok (.aload_n 0, 1) := by decide +kernel
theorem dX15_issues_84 : decode cX15_issues 84 = .ok (.getfield 38, 3) := by decide +kernel
theorem dX15_issues_87 : decode cX15_issues 87 = .ok (.aload_n 0, 1) := by decide +kernel
theorem dX15_issues_88 : decode cX15_issues 88 = .ok (.getfield 60, 3) := by decide +kernel
theorem dX15_issues_91 : decode cX15_issues 91 = .ok (.aload_n 0, 1) := by decide +kernel
theorem dX15_issues_92 : decode cX15_issues 92 = .ok (.getfield 60, 3) := by decide +kernel
theorem dX15_issues_95 : decode cX15_issues 95 = .ok (.invokevirtual 148, 3) := by decide +kernel
theorem dX15_issues_98 : decode cX15_issues 98 = .ok (.aload_n 0, 1) := by decide +kernel
theorem dX15_issues_99 : decode cX15_issues 99 = .ok (.getfield 57, 3) := by decide +kernel
theorem dX15_issues_102 : decode cX15_issues 102 = .ok (.aload_n 0, 1) := by decide +kernel
theorem dX15_issues_103 : decode cX15_issues 103 = .ok (.getfield 60, 3) := by decide +kernel
theorem dX15_issues_106 : decode cX15_issues 106 = .ok (.invokestatic 151, 3) := by decide +kernel
theorem dX15_issues_109 : decode cX15_issues 109 = .ok (.ifCond .eq 13, 3) := by decide +kernel
theorem dX15_issues_112 : decode cX15_issues 112 = .ok (.aload_n 0, 1) := by decide +kernel
theorem dX15_issues_113 : decode cX15_issues 113 = .ok (.getfield 15, 3) := by decide +kernel
theorem dX15_issues_116 : decode cX15_issues 116 = .ok (.bipush (-4), 2) := by decide +kernel
theorem dX15_issues_118 : decode cX15_issues 118 = .ok (.invokevirtual 27, 3) := by decide +kernel
theorem dX15_issues_121 : decode cX15_issues 121 = .ok (.athrow, 1) := by decide +kernel
theorem dX15_issues_122 : decode cX15_issues 122 = .ok (.aload_n 0, 1) := by decide +kernel
theorem dX15_issues_123 : decode cX15_issues 123 = .ok (.getfield 38, 3) := by decide +kernel
theorem dX15_issues_126 : decode cX15_issues 126 = .ok (.aload_n 0, 1) := by decide +kernel
theorem dX15_issues_127 : decode cX15_issues 127 = .ok (.getfield 63, 3) := by decide +kernel
theorem dX15_issues_130 : decode cX15_issues 130 = .ok (.aload_n 0, 1) := by decide +kernel
theorem dX15_issues_131 : decode cX15_issues 131 = .ok (.getfield 63, 3) := by decide +kernel
theorem dX15_issues_134 : decode cX15_issues 134 = .ok (.invokevirtual 148, 3) := by decide +kernel
theorem dX15_issues_137 : decode cX15_issues 137 = .ok (.aload_n 0, 1) := by decide +kernel
theorem dX15_issues_138 : decode cX15_issues 138 = .ok (.getfield 63, 3) := by decide +kernel
theorem dX15_issues_141 : decode cX15_issues 141 = .ok (.aload 4, 2) := by decide +kernel
theorem dX15_issues_143 : decode cX15_issues 143 = .ok (.iconst 0, 1) := by decide +kernel
theorem dX15_issues_144 : decode cX15_issues 144 = .ok (.aload_n 0, 1) := by decide +kernel
theorem dX15_issues_145 : decode cX15_issues 145 = .ok (.getfield 19, 3) := by decide +kernel
theorem dX15_issues_148 : decode cX15_issues 148 = .ok (.invokestatic 124, 3) := by decide +kernel
theorem dX15_issues_151 : decode cX15_issues 151 = .ok (.return_, 1) := by decide +kernel
abbrev cX15_answers : ByteArray := prog_13_method_6_code
def yX15_answers : MethodName := ⟨RX15, "answers", "(I)I"⟩
theorem dX15_answers_0 : decode cX15_answers 0 = .ok (.aload_n 0, 1) := by decide +kernel
theorem dX15_answers_1 : decode cX15_answers 1 = .ok (.getfield 19, 3) := by decide +kernel
theorem dX15_answers_4 : decode cX15_answers 4 = .ok (.ireturn, 1) := by decide +kernel
abbrev cX15_proved : ByteArray := prog_13_method_3_code
def yX15_proved : MethodName := ⟨RX15, "proved", "()I"⟩
theorem dX15_proved_0 : decode cX15_proved 0 = .ok (.aload_n 0, 1) := by decide +kernel
theorem dX15_proved_1 : decode cX15_proved 1 = .ok (.getfield 19, 3) := by decide +kernel
theorem dX15_proved_4 : decode cX15_proved 4 = .ok (.ireturn, 1) := by decide +kernel
abbrev cX15_isRight : ByteArray := prog_13_method_17_code
def yX15_isRight : MethodName := ⟨RX15, "isRight", "([BI[BI)Z"⟩
theorem dX15_isRight_0 : decode cX15_isRight 0 = .ok (.aload_n 0, 1) := by decide +kernel
theorem dX15_isRight_1 : decode cX15_isRight 1 = .ok (.getfield 38, 3) := by decide +kernel
theorem dX15_isRight_4 : decode cX15_isRight 4 = .ok (.aload_n 3, 1) := by decide +kernel
theorem dX15_isRight_5 : decode cX15_isRight 5 = .ok (.iload 4, 2) := by decide +kernel
theorem dX15_isRight_7 : decode cX15_isRight 7 = .ok (.aload_n 0, 1) := by decide +kernel
theorem dX15_isRight_8 : decode cX15_isRight 8 = .ok (.getfield 19, 3) := by decide +kernel
theorem dX15_isRight_11 : decode cX15_isRight 11 = .ok (.aload_n 0, 1) := by decide +kernel
theorem dX15_isRight_12 : decode cX15_isRight 12 = .ok (.getfield 57, 3) := by decide +kernel
theorem dX15_isRight_15 : decode cX15_isRight 15 = .ok (.invokevirtual 49, 3) := by decide +kernel
theorem dX15_isRight_18 : decode cX15_isRight 18 = .ok (.ifCond .ne 5, 3) := by decide +kernel
theorem dX15_isRight_21 : decode cX15_isRight 21 = .ok (.iconst 0, 1) := by decide +kernel
theorem dX15_isRight_22 : decode cX15_isRight 22 = .ok (.ireturn, 1) := by decide +kernel
theorem dX15_isRight_23 : decode cX15_isRight 23 = .ok (.aload_n 0, 1) := by decide +kernel
theorem dX15_isRight_24 : decode cX15_isRight 24 = .ok (.getfield 38, 3) := by decide +kernel
theorem dX15_isRight_27 : decode cX15_isRight 27 = .ok (.aload_n 0, 1) := by decide +kernel
theorem dX15_isRight_28 : decode cX15_isRight 28 = .ok (.getfield 57, 3) := by decide +kernel
theorem dX15_isRight_31 : decode cX15_isRight 31 = .ok (.aload_n 0, 1) := by decide +kernel
theorem dX15_isRight_32 : decode cX15_isRight 32 = .ok (.getfield 57, 3) := by decide +kernel
theorem dX15_isRight_35 : decode cX15_isRight 35 = .ok (.invokevirtual 137, 3) := by decide +kernel
theorem dX15_isRight_38 : decode cX15_isRight 38 = .ok (.aload_n 0, 1) := by decide +kernel
theorem dX15_isRight_39 : decode cX15_isRight 39 = .ok (.getfield 38, 3) := by decide +kernel
theorem dX15_isRight_42 : decode cX15_isRight 42 = .ok (.aload_n 0, 1) := by decide +kernel
theorem dX15_isRight_43 : decode cX15_isRight 43 = .ok (.getfield 57, 3) := by decide +kernel
theorem dX15_isRight_46 : decode cX15_isRight 46 = .ok (.aload_n 0, 1) := by decide +kernel
theorem dX15_isRight_47 : decode cX15_isRight 47 = .ok (.getfield 42, 3) := by decide +kernel
theorem dX15_isRight_50 : decode cX15_isRight 50 = .ok (.aload_n 0, 1) := by decide +kernel
theorem dX15_isRight_51 : decode cX15_isRight 51 = .ok (.getfield 63, 3) := by decide +kernel
theorem dX15_isRight_54 : decode cX15_isRight 54 = .ok (.invokevirtual 141, 3) := by decide +kernel
theorem dX15_isRight_57 : decode cX15_isRight 57 = .ok (.aload_n 0, 1) := by decide +kernel
theorem dX15_isRight_58 : decode cX15_isRight 58 = .ok (.getfield 38, 3) := by decide +kernel
theorem dX15_isRight_61 : decode cX15_isRight 61 = .ok (.aload_n 0, 1) := by decide +kernel
theorem dX15_isRight_62 : decode cX15_isRight 62 = .ok (.getfield 63, 3) := by decide +kernel
theorem dX15_isRight_65 : decode cX15_isRight 65 = .ok (.aload_n 0, 1) := by decide +kernel
theorem dX15_isRight_66 : decode cX15_isRight 66 = .ok (.getfield 63, 3) := by decide +kernel
theorem dX15_isRight_69 : decode cX15_isRight 69 = .ok (.invokevirtual 148, 3) := by decide +kernel
theorem dX15_isRight_72 : decode cX15_isRight 72 = .ok (.aload_n 0, 1) := by decide +kernel
theorem dX15_isRight_73 : decode cX15_isRight 73 = .ok (.aload_n 1, 1) := by decide +kernel
theorem dX15_isRight_74 : decode cX15_isRight 74 = .ok (.iload_n 2, 1) := by decide +kernel
theorem dX15_isRight_75 : decode cX15_isRight 75 = .ok (.invokevirtual 167, 3) := by decide +kernel
theorem dX15_isRight_78 : decode cX15_isRight 78 = .ok (.ireturn, 1) := by decide +kernel
abbrev cX15_isCode : ByteArray := prog_13_method_13_code
def yX15_isCode : MethodName := ⟨RX15, "isCode", "([BI)Z"⟩
theorem dX15_isCode_0 : decode cX15_isCode 0 = .ok (.aload_n 0, 1) := by decide +kernel
theorem dX15_isCode_1 : decode cX15_isCode 1 = .ok (.invokevirtual 112, 3) := by decide +kernel
theorem dX15_isCode_4 : decode cX15_isCode 4 = .ok (.istore_n 3, 1) := by decide +kernel
theorem dX15_isCode_5 : decode cX15_isCode 5 = .ok (.aload_n 0, 1) := by decide +kernel
theorem dX15_isCode_6 : decode cX15_isCode 6 = .ok (.getfield 19, 3) := by decide +kernel
theorem dX15_isCode_9 : decode cX15_isCode 9 = .ok (.newarray .byte, 2) := by decide +kernel
theorem dX15_isCode_11 : decode cX15_isCode 11 = .ok (.astore 4, 2) := by decide +kernel
theorem dX15_isCode_13 : decode cX15_isCode 13 = .ok (.aload_n 0, 1) := by decide +kernel
theorem dX15_isCode_14 : decode cX15_isCode 14 = .ok (.getfield 63, 3) := by decide +kernel
theorem dX15_isCode_17 : decode cX15_isCode 17 = .ok (.aload 4, 2) := by decide +kernel
theorem dX15_isCode_19 : decode cX15_isCode 19 = .ok (.iconst 0, 1) := by decide +kernel
theorem dX15_isCode_20 : decode cX15_isCode 20 = .ok (.aload_n 0, 1) := by decide +kernel
theorem dX15_isCode_21 : decode cX15_isCode 21 = .ok (.getfield 19, 3) := by decide +kernel
theorem dX15_isCode_24 : decode cX15_isCode 24 = .ok (.invokestatic 124, 3) := by decide +kernel
theorem dX15_isCode_27 : decode cX15_isCode 27 = .ok (.aload_n 0, 1) := by decide +kernel
theorem dX15_isCode_28 : decode cX15_isCode 28 = .ok (.getfield 19, 3) := by decide +kernel
theorem dX15_isCode_31 : decode cX15_isCode 31 = .ok (.iload_n 3, 1) := by decide +kernel
theorem dX15_isCode_32 : decode cX15_isCode 32 = .ok (.isub, 1) := by decide +kernel
theorem dX15_isCode_33 : decode cX15_isCode 33 = .ok (.istore 5, 2) := by decide +kernel
theorem dX15_isCode_35 : decode cX15_isCode 35 = .ok (.iload 5, 2) := by decide +kernel
theorem dX15_isCode_37 : decode cX15_isCode 37 = .ok (.iconst 1, 1) := by decide +kernel
theorem dX15_isCode_38 : decode cX15_isCode 38 = .ok (.if_icmp .ne 12, 3) := by decide +kernel
theorem dX15_isCode_41 : decode cX15_isCode 41 = .ok (.aload 4, 2) := by decide +kernel
theorem dX15_isCode_43 : decode cX15_isCode 43 = .ok (.iconst 0, 1) := by decide +kernel
theorem dX15_isCode_44 : decode cX15_isCode 44 = .ok (.baload, 1) := by decide +kernel
theorem dX15_isCode_45 : decode cX15_isCode 45 = .ok (.ifCond .eq 5, 3) := by decide +kernel
theorem dX15_isCode_48 : decode cX15_isCode 48 = .ok (.iconst 0, 1) := by decide +kernel
theorem dX15_isCode_49 : decode cX15_isCode 49 = .ok (.ireturn, 1) := by decide +kernel
theorem dX15_isCode_50 : decode cX15_isCode 50 = .ok (.aload 4, 2) := by decide +kernel
theorem dX15_isCode_52 : decode cX15_isCode 52 = .ok (.iload 5, 2) := by decide +kernel
theorem dX15_isCode_54 : decode cX15_isCode 54 = .ok (.aload_n 0, 1) := by decide +kernel
theorem dX15_isCode_55 : decode cX15_isCode 55 = .ok (.getfield 76, 3) := by decide +kernel
theorem dX15_isCode_58 : decode cX15_isCode 58 = .ok (.iconst 0, 1) := by decide +kernel
theorem dX15_isCode_59 : decode cX15_isCode 59 = .ok (.iload_n 3, 1) := by decide +kernel
theorem dX15_isCode_60 : decode cX15_isCode 60 = .ok (.invokestatic 70, 3) := by decide +kernel
theorem dX15_isCode_63 : decode cX15_isCode 63 = .ok (.iload_n 3, 1) := by decide +kernel
theorem dX15_isCode_64 : decode cX15_isCode 64 = .ok (.bipush 48, 2) := by decide +kernel
theorem dX15_isCode_66 : decode cX15_isCode 66 = .ok (.isub, 1) := by decide +kernel
theorem dX15_isCode_67 : decode cX15_isCode 67 = .ok (.iconst 1, 1) := by decide +kernel
theorem dX15_isCode_68 : decode cX15_isCode 68 = .ok (.isub, 1) := by decide +kernel
theorem dX15_isCode_69 : decode cX15_isCode 69 = .ok (.istore 6, 2) := by decide +kernel
theorem dX15_isCode_71 : decode cX15_isCode 71 = .ok (.bipush 8, 2) := by decide +kernel
theorem dX15_isCode_73 : decode cX15_isCode 73 = .ok (.iload_n 3, 1) := by decide +kernel
theorem dX15_isCode_74 : decode cX15_isCode 74 = .ok (.imul, 1) := by decide +kernel
theorem dX15_isCode_75 : decode cX15_isCode 75 = .ok (.aload_n 0, 1) := by decide +kernel
theorem dX15_isCode_76 : decode cX15_isCode 76 = .ok (.getfield 88, 3) := by decide +kernel
theorem dX15_isCode_79 : decode cX15_isCode 79 = .ok (.isub, 1) := by decide +kernel
theorem dX15_isCode_80 : decode cX15_isCode 80 = .ok (.istore 7, 2) := by decide +kernel
theorem dX15_isCode_82 : decode cX15_isCode 82 = .ok (.aload_n 0, 1) := by decide +kernel
theorem dX15_isCode_83 : decode cX15_isCode 83 = .ok (.getfield 76, 3) := by decide +kernel
theorem dX15_isCode_86 : decode cX15_isCode 86 = .ok (.iload_n 3, 1) := by decide +kernel
theorem dX15_isCode_87 : decode cX15_isCode 87 = .ok (.iconst 1, 1) := by decide +kernel
theorem dX15_isCode_88 : decode cX15_isCode 88 = .ok (.isub, 1) := by decide +kernel
theorem dX15_isCode_89 : decode cX15_isCode 89 = .ok (.baload, 1) := by decide +kernel
theorem dX15_isCode_90 : decode cX15_isCode 90 = .ok (.bipush (-68), 2) := by decide +kernel
theorem dX15_isCode_92 : decode cX15_isCode 92 = .ok (.if_icmp .ne 22, 3) := by decide +kernel
theorem dX15_isCode_95 : decode cX15_isCode 95 = .ok (.aload_n 0, 1) := by decide +kernel
theorem dX15_isCode_96 : decode cX15_isCode 96 = .ok (.getfield 76, 3) := by decide +kernel
theorem dX15_isCode_99 : decode cX15_isCode 99 = .ok (.iconst 0, 1) := by decide +kernel
theorem dX15_isCode_100 : decode cX15_isCode 100 = .ok (.baload, 1) := by decide +kernel
theorem dX15_isCode_101 : decode cX15_isCode 101 = .ok (.sipush 255, 3) := by decide +kernel
theorem dX15_isCode_104 : decode cX15_isCode 104 = .ok (.iand, 1) := by decide +kernel
theorem dX15_isCode_105 : decode cX15_isCode 105 = .ok (.bipush 8, 2) := by decide +kernel
theorem dX15_isCode_107 : decode cX15_isCode 107 = .ok (.iload 7, 2) := by decide +kernel
theorem dX15_isCode_109 : decode cX15_isCode 109 = .ok (.isub, 1) := by decide +kernel
theorem dX15_isCode_110 : decode cX15_isCode 110 = .ok (.ishr, 1) := by decide +kernel
theorem dX15_isCode_111 : decode cX15_isCode 111 = .ok (.ifCond .eq 5, 3) := by decide +kernel
theorem dX15_isCode_114 : decode cX15_isCode 114 = .ok (.iconst 0, 1) := by decide +kernel
theorem dX15_isCode_115 : decode cX15_isCode 115 = .ok (.ireturn, 1) := by decide +kernel
theorem dX15_isCode_116 : decode cX15_isCode 116 = .ok (.aload_n 0, 1) := by decide +kernel
theorem dX15_isCode_117 : decode cX15_isCode 117 = .ok (.aload_n 0, 1) := by decide +kernel
theorem dX15_isCode_118 : decode cX15_isCode 118 = .ok (.getfield 76, 3) := by decide +kernel
theorem dX15_isCode_121 : decode cX15_isCode 121 = .ok (.iload 6, 2) := by decide +kernel
theorem dX15_isCode_123 : decode cX15_isCode 123 = .ok (.aload_n 0, 1) := by decide +kernel
theorem dX15_isCode_124 : decode cX15_isCode 124 = .ok (.getfield 76, 3) := by decide +kernel
theorem dX15_isCode_127 : decode cX15_isCode 127 = .ok (.iload 6, 2) := by decide +kernel
theorem dX15_isCode_129 : decode cX15_isCode 129 = .ok (.invokevirtual 120, 3) := by decide +kernel
theorem dX15_isCode_132 : decode cX15_isCode 132 = .ok (.aload_n 0, 1) := by decide +kernel
theorem dX15_isCode_133 : decode cX15_isCode 133 = .ok (.getfield 76, 3) := by decide +kernel
theorem dX15_isCode_136 : decode cX15_isCode 136 = .ok (.iconst 0, 1) := by decide +kernel
theorem dX15_isCode_137 : decode cX15_isCode 137 = .ok (.dup2, 1) := by decide +kernel
theorem dX15_isCode_138 : decode cX15_isCode 138 = .ok (.baload, 1) := by decide +kernel
theorem dX15_isCode_139 : decode cX15_isCode 139 = .ok (.sipush 255, 3) := by decide +kernel
theorem dX15_isCode_142 : decode cX15_isCode 142 = .ok (.iload 7, 2) := by decide +kernel
theorem dX15_isCode_144 : decode cX15_isCode 144 = .ok (.ishr, 1) := by decide +kernel
theorem dX15_isCode_145 : decode cX15_isCode 145 = .ok (.iand, 1) := by decide +kernel
theorem dX15_isCode_146 : decode cX15_isCode 146 = .ok (.i2b, 1) := by decide +kernel
theorem dX15_isCode_147 : decode cX15_isCode 147 = .ok (.bastore, 1) := by decide +kernel
theorem dX15_isCode_148 : decode cX15_isCode 148 = .ok (.iconst 0, 1) := by decide +kernel
theorem dX15_isCode_149 : decode cX15_isCode 149 = .ok (.istore 8, 2) := by decide +kernel
theorem dX15_isCode_151 : decode cX15_isCode 151 = .ok (.iload 8, 2) := by decide +kernel
theorem dX15_isCode_153 : decode cX15_isCode 153 = .ok (.iload 6, 2) := by decide +kernel
theorem dX15_isCode_155 : decode cX15_isCode 155 = .ok (.aload_n 0, 1) := by decide +kernel
theorem dX15_isCode_156 : decode cX15_isCode 156 = .ok (.getfield 23, 3) := by decide +kernel
theorem dX15_isCode_159 : decode cX15_isCode 159 = .ok (.isub, 1) := by decide +kernel
theorem dX15_isCode_160 : decode cX15_isCode 160 = .ok (.iconst 1, 1) := by decide +kernel
theorem dX15_isCode_161 : decode cX15_isCode 161 = .ok (.isub, 1) := by decide +kernel
theorem dX15_isCode_162 : decode cX15_isCode 162 = .ok (.if_icmp .ge 21, 3) := by decide +kernel
theorem dX15_isCode_165 : decode cX15_isCode 165 = .ok (.aload_n 0, 1) := by decide +kernel
theorem dX15_isCode_166 : decode cX15_isCode 166 = .ok (.getfield 76, 3) := by decide +kernel
theorem dX15_isCode_169 : decode cX15_isCode 169 = .ok (.iload 8, 2) := by decide +kernel
theorem dX15_isCode_171 : decode cX15_isCode 171 = .ok (.baload, 1) := by decide +kernel
theorem dX15_isCode_172 : decode cX15_isCode 172 = .ok (.ifCond .eq 5, 3) := by decide +kernel
theorem dX15_isCode_175 : decode cX15_isCode 175 = .ok (.iconst 0, 1) := by decide +kernel
theorem dX15_isCode_176 : decode cX15_isCode 176 = .ok (.ireturn, 1) := by decide +kernel
theorem dX15_isCode_177 : decode cX15_isCode 177 = .ok (.iinc 8 1, 3) := by decide +kernel
theorem dX15_isCode_180 : decode cX15_isCode 180 = .ok (.goto (-29), 3) := by decide +kernel
theorem dX15_isCode_183 : decode cX15_isCode 183 = .ok (.aload_n 0, 1) := by decide +kernel
theorem dX15_isCode_184 : decode cX15_isCode 184 = .ok (.getfield 76, 3) := by decide +kernel
theorem dX15_isCode_187 : decode cX15_isCode 187 = .ok (.iload 6, 2) := by decide +kernel
theorem dX15_isCode_189 : decode cX15_isCode 189 = .ok (.aload_n 0, 1) := by decide +kernel
theorem dX15_isCode_190 : decode cX15_isCode 190 = .ok (.getfield 23, 3) := by decide +kernel
theorem dX15_isCode_193 : decode cX15_isCode 193 = .ok (.isub, 1) := by decide +kernel
theorem dX15_isCode_194 : decode cX15_isCode 194 = .ok (.iconst 1, 1) := by decide +kernel
theorem dX15_isCode_195 : decode cX15_isCode 195 = .ok (.isub, 1) := by decide +kernel
theorem dX15_isCode_196 : decode cX15_isCode 196 = .ok (.baload, 1) := by decide +kernel
theorem dX15_isCode_197 : decode cX15_isCode 197 = .ok (.iconst 1, 1) := by decide +kernel
theorem dX15_isCode_198 : decode cX15_isCode 198 = .ok (.if_icmp .eq 5, 3) := by decide +kernel
theorem dX15_isCode_201 : decode cX15_isCode 201 = .ok (.iconst 0, 1) := by decide +kernel
theorem dX15_isCode_202 : decode cX15_isCode 202 = .ok (.ireturn, 1) := by decide +kernel
theorem dX15_isCode_203 : decode cX15_isCode 203 = .ok (.aload_n 0, 1) := by decide +kernel
theorem dX15_isCode_204 : decode cX15_isCode 204 = .ok (.aload_n 1, 1) := by decide +kernel
theorem dX15_isCode_205 : decode cX15_isCode 205 = .ok (.iload_n 2, 1) := by decide +kernel
theorem dX15_isCode_206 : decode cX15_isCode 206 = .ok (.aload_n 0, 1) := by decide +kernel
theorem dX15_isCode_207 : decode cX15_isCode 207 = .ok (.getfield 76, 3) := by decide +kernel
theorem dX15_isCode_210 : decode cX15_isCode 210 = .ok (.iload 6, 2) := by decide +kernel
theorem dX15_isCode_212 : decode cX15_isCode 212 = .ok (.aload_n 0, 1) := by decide +kernel
theorem dX15_isCode_213 : decode cX15_isCode 213 = .ok (.getfield 23, 3) := by decide +kernel
theorem dX15_isCode_216 : decode cX15_isCode 216 = .ok (.isub, 1) := by decide +kernel
theorem dX15_isCode_217 : decode cX15_isCode 217 = .ok (.invokevirtual 116, 3) := by decide +kernel
theorem dX15_isCode_220 : decode cX15_isCode 220 = .ok (.astore 8, 2) := by decide +kernel
theorem dX15_isCode_222 : decode cX15_isCode 222 = .ok (.iconst 1, 1) := by decide +kernel
theorem dX15_isCode_223 : decode cX15_isCode 223 = .ok (.istore 9, 2) := by decide +kernel
theorem dX15_isCode_225 : decode cX15_isCode 225 = .ok (.iconst 0, 1) := by decide +kernel
theorem dX15_isCode_226 : decode cX15_isCode 226 = .ok (.istore 10, 2) := by decide +kernel
theorem dX15_isCode_228 : decode cX15_isCode 228 = .ok (.iload 10, 2) := by decide +kernel
theorem dX15_isCode_230 : decode cX15_isCode 230 = .ok (.bipush 48, 2) := by decide +kernel
theorem dX15_isCode_232 : decode cX15_isCode 232 = .ok (.if_icmp .ge 39, 3) := by decide +kernel
theorem dX15_isCode_235 : decode cX15_isCode 235 = .ok (.iload 9, 2) := by decide +kernel
theorem dX15_isCode_237 : decode cX15_isCode 237 = .ok (.ifCond .eq 25, 3) := by decide +kernel
theorem dX15_isCode_240 : decode cX15_isCode 240 = .ok (.aload 8, 2) := by decide +kernel
theorem dX15_isCode_242 : decode cX15_isCode 242 = .ok (.iload 10, 2) := by decide +kernel
theorem dX15_isCode_244 : decode cX15_isCode 244 = .ok (.baload, 1) := by decide +kernel
theorem dX15_isCode_245 : decode cX15_isCode 245 = .ok (.aload_n 0, 1) := by decide +kernel
theorem dX15_isCode_246 : decode cX15_isCode 246 = .ok (.getfield 76, 3) := by decide +kernel
theorem dX15_isCode_249 : decode cX15_isCode 249 = .ok (.iload 6, 2) := by decide +kernel
theorem dX15_isCode_251 : decode cX15_isCode 251 = .ok (.iload 10, 2) := by decide +kernel
theorem dX15_isCode_253 : decode cX15_isCode 253 = .ok (.iadd, 1) := by decide +kernel
theorem dX15_isCode_254 : decode cX15_isCode 254 = .ok (.baload, 1) := by decide +kernel
theorem dX15_isCode_255 : decode cX15_isCode 255 = .ok (.if_icmp .ne 7, 3) := by decide +kernel
theorem dX15_isCode_258 : decode cX15_isCode 258 = .ok (.iconst 1, 1) := by decide +kernel
theorem dX15_isCode_259 : decode cX15_isCode 259 = .ok (.goto 4, 3) := by decide +kernel
theorem dX15_isCode_262 : decode cX15_isCode 262 = .ok (.iconst 0, 1) := by decide +kernel
theorem dX15_isCode_263 : decode cX15_isCode 263 = .ok (.istore 9, 2) := by decide +kernel
theorem dX15_isCode_265 : decode cX15_isCode 265 = .ok (.iinc 10 1, 3) := by decide +kernel
theorem dX15_isCode_268 : decode cX15_isCode 268 = .ok (.goto (-40), 3) := by decide +kernel
theorem dX15_isCode_271 : decode cX15_isCode 271 = .ok (.iload 9, 2) := by decide +kernel
theorem dX15_isCode_273 : decode cX15_isCode 273 = .ok (.ireturn, 1) := by decide +kernel
abbrev cX15_finishes : ByteArray := prog_13_method_16_code
def yX15_finishes : MethodName := ⟨RX15, "finishes", "([LVeilMint$Asking;II[B[B)V"⟩
theorem dX15_finishes_0 : decode cX15_finishes 0 = .ok (.aload_n 1, 1) := by decide +kernel
theorem dX15_finishes_1 : decode cX15_finishes 1 = .ok (.iload_n 2, 1) := by decide +kernel
theorem dX15_finishes_2 : decode cX15_finishes 2 = .ok (.aaload, 1) := by decide +kernel
theorem dX15_finishes_3 : decode cX15_finishes 3 = .ok (.astore 6, 2) := by decide +kernel
theorem dX15_finishes_5 : decode cX15_finishes 5 = .ok (.aload_n 0, 1) := by decide +kernel
theorem dX15_finishes_6 : decode cX15_finishes 6 = .ok (.getfield 38, 3) := by decide +kernel
theorem dX15_finishes_9 : decode cX15_finishes 9 = .ok (.aload 4, 2) := by decide +kernel
theorem dX15_finishes_11 : decode cX15_finishes 11 = .ok (.iconst 0, 1) := by decide +kernel
theorem dX15_finishes_12 : decode cX15_finishes 12 = .ok (.aload_n 0, 1) := by decide +kernel
theorem dX15_finishes_13 : decode cX15_finishes 13 = .ok (.getfield 19, 3) := by decide +kernel
theorem dX15_finishes_16 : decode cX15_finishes 16 = .ok (.aload_n 0, 1) := by decide +kernel
theorem dX15_finishes_17 : decode cX15_finishes 17 = .ok (.getfield 57, 3) := by decide +kernel
theorem dX15_finishes_20 : decode cX15_finishes 20 = .ok (.invokevirtual 49, 3) := by decide +kernel
theorem dX15_finishes_23 : decode cX15_finishes 23 = .ok (.ifCond .ne 13, 3) := by decide +kernel
theorem dX15_finishes_26 : decode cX15_finishes 26 = .ok (.aload_n 0, 1) := by decide +kernel
theorem dX15_finishes_27 : decode cX15_finishes 27 = .ok (.getfield 15, 3) := by decide +kernel
theorem dX15_finishes_30 : decode cX15_finishes 30 = .ok (.bipush (-4), 2) := by decide +kernel
theorem dX15_finishes_32 : decode cX15_finishes 32 = .ok (.invokevirtual 27, 3) := by decide +kernel
theorem dX15_finishes_35 : decode cX15_finishes 35 = .ok (.athrow, 1) := by decide +kernel
theorem dX15_finishes_36 : decode cX15_finishes 36 = .ok (.aload_n 0, 1) := by decide +kernel
theorem dX15_finishes_37 : decode cX15_finishes 37 = .ok (.getfield 38, 3) := by decide +kernel
theorem dX15_finishes_40 : decode cX15_finishes 40 = .ok (.aload_n 0, 1) := by decide +kernel
theorem dX15_finishes_41 : decode cX15_finishes 41 = .ok (.getfield 57, 3) := by decide +kernel
theorem dX15_finishes_44 : decode cX15_finishes 44 = .ok (.aload_n 0, 1) := by decide +kernel
theorem dX15_finishes_45 : decode cX15_finishes 45 = .ok (.getfield 57, 3) := by decide +kernel
theorem dX15_finishes_48 : decode cX15_finishes 48 = .ok (.invokevirtual 137, 3) := by decide +kernel
theorem dX15_finishes_51 : decode cX15_finishes 51 = .ok (.aload_n 0, 1) := by decide +kernel
theorem dX15_finishes_52 : decode cX15_finishes 52 = .ok (.getfield 38, 3) := by decide +kernel
theorem dX15_finishes_55 : decode cX15_finishes 55 = .ok (.aload_n 0, 1) := by decide +kernel
theorem dX15_finishes_56 : decode cX15_finishes 56 = .ok (.getfield 57, 3) := by decide +kernel
theorem dX15_finishes_59 : decode cX15_finishes 59 = .ok (.aload 6, 2) := by decide +kernel
theorem dX15_finishes_61 : decode cX15_finishes 61 = .ok (.getfield 155, 3) := by decide +kernel
theorem dX15_finishes_64 : decode cX15_finishes 64 = .ok (.aload_n 0, 1) := by decide +kernel
theorem dX15_finishes_65 : decode cX15_finishes 65 = .ok (.getfield 60, 3) := by decide +kernel
theorem dX15_finishes_68 : decode cX15_finishes 68 = .ok (.invokevirtual 145, 3) := by decide +kernel
theorem dX15_finishes_71 : decode cX15_finishes 71 = .ok (.aload 6, 2) := by decide +kernel
theorem dX15_finishes_73 : decode cX15_finishes 73 = .ok (.getfield 160, 3) := by decide +kernel
theorem dX15_finishes_76 : decode cX15_finishes 76 = .ok (.iconst 0, 1) := by decide +kernel
theorem dX15_finishes_77 : decode cX15_finishes 77 = .ok (.aload 5, 2) := by decide +kernel
theorem dX15_finishes_79 : decode cX15_finishes 79 = .ok (.iconst 0, 1) := by decide +kernel
theorem dX15_finishes_80 : decode cX15_finishes 80 = .ok (.bipush 98, 2) := by decide +kernel
theorem dX15_finishes_82 : decode cX15_finishes 82 = .ok (.invokestatic 70, 3) := by decide +kernel
theorem dX15_finishes_85 : decode cX15_finishes 85 = .ok (.aload_n 0, 1) := by decide +kernel
theorem dX15_finishes_86 : decode cX15_finishes 86 = .ok (.getfield 60, 3) := by decide +kernel
theorem dX15_finishes_89 : decode cX15_finishes 89 = .ok (.aload 5, 2) := by decide +kernel
theorem dX15_finishes_91 : decode cX15_finishes 91 = .ok (.bipush 98, 2) := by decide +kernel
theorem dX15_finishes_93 : decode cX15_finishes 93 = .ok (.aload_n 0, 1) := by decide +kernel
theorem dX15_finishes_94 : decode cX15_finishes 94 = .ok (.getfield 19, 3) := by decide +kernel
theorem dX15_finishes_97 : decode cX15_finishes 97 = .ok (.invokestatic 124, 3) := by decide +kernel
theorem dX15_finishes_100 : decode cX15_finishes 100 = .ok (.aload_n 0, 1) := by decide +kernel
theorem dX15_finishes_101 : decode cX15_finishes 101 = .ok (.aload 5, 2) := by decide +kernel
theorem dX15_finishes_103 : decode cX15_finishes 103 = .ok (.iconst 0, 1) := by decide +kernel
theorem dX15_finishes_104 : decode cX15_finishes 104 = .ok (.aload 5, 2) := by decide +kernel
theorem dX15_finishes_106 : decode cX15_finishes 106 = .ok (.bipush 98, 2) := by decide +kernel
theorem dX15_finishes_108 : decode cX15_finishes 108 = .ok (.invokevirtual 163, 3) := by decide +kernel
theorem dX15_finishes_111 : decode cX15_finishes 111 = .ok (.ifCond .ne 13, 3) := by decide +kernel
theorem dX15_finishes_114 : decode cX15_finishes 114 = .ok (.aload_n 0, 1) := by decide +kernel
theorem dX15_finishes_115 : decode cX15_finishes 115 = .ok (.getfield 15, 3) := by decide +kernel
theorem dX15_finishes_118 : decode cX15_finishes 118 = .ok (.bipush (-4), 2) := by decide +kernel
theorem dX15_finishes_120 : decode cX15_finishes 120 = .ok (.invokevirtual 27, 3) := by decide +kernel
theorem dX15_finishes_123 : decode cX15_finishes 123 = .ok (.athrow, 1) := by decide +kernel
theorem dX15_finishes_124 : decode cX15_finishes 124 = .ok (.return_, 1) := by decide +kernel
theorem q121 : (Jvm.Cond.initialized "VeilMint$Signing") ∈ lw_all := lw_g (lw_at lw_m1 24 rfl) rfl
theorem q281 : (Jvm.Cond.fieldLinkNest "VeilMint$Signing" (131 : Nat) "VeilMint$Modulus" "n" "I" "VeilMint") ∈ lw_tbl := lw_at lw_m1 184 rfl
theorem q742 : (Jvm.Cond.instantiable "VeilMint$Signing" (17 : Nat)) ∈ lw_all := lw_g (lw_at lw_m3 165 rfl) rfl
theorem q744 : (Jvm.Cond.instanceMethod ({ cls := "VeilMint$Signing", name := "<init>", desc := "(LVeilMint$Digest384;LVeilMint$Refusal;[BI)V" } : Jvm.MethodName)) ∈ lw_all := lw_g (lw_at lw_m3 167 rfl) rfl
theorem q745 : (Jvm.Cond.code ({ cls := "VeilMint$Signing", name := "<init>", desc := "(LVeilMint$Digest384;LVeilMint$Refusal;[BI)V" } : Jvm.MethodName) prog_13_method_1_code (10 : Nat) (Option.none : Option Jvm.ClassFile.FieldType)) ∈ lw_all := lw_g (lw_at lw_m3 168 rfl) rfl
theorem q746 : (Jvm.Cond.methodLink "VeilMint$Signing" (3 : Nat) ({ cls := "VeilMint$Key", name := "<init>", desc := "(I)V" } : Jvm.MethodName)) ∈ lw_all := lw_g (lw_at lw_m3 169 rfl) rfl
theorem q747 : (Jvm.Cond.constant "VeilMint$Signing" (26 : Nat) (65537 : Int32)) ∈ lw_all := lw_g (lw_at lw_m3 170 rfl) rfl
theorem q748 : (Jvm.Cond.methodLink "VeilMint$Signing" (27 : Nat) ({ cls := "VeilMint$Refusal", name := "as", desc := "(I)LVeilMint$Refusal;" } : Jvm.MethodName)) ∈ lw_all := lw_g (lw_at lw_m3 171 rfl) rfl
theorem q749 : (Jvm.Cond.classLink "VeilMint$Signing" (33 : Nat) "VeilMint$Modulus") ∈ lw_all := lw_g (lw_at lw_m3 172 rfl) rfl
theorem q750 : (Jvm.Cond.methodLink "VeilMint$Signing" (35 : Nat) ({ cls := "VeilMint$Modulus", name := "<init>", desc := "([I)V" } : Jvm.MethodName)) ∈ lw_all := lw_g (lw_at lw_m3 173 rfl) rfl
theorem q751 : (Jvm.Cond.methodLink "VeilMint$Signing" (49 : Nat) ({ cls := "VeilMint$Modulus", name := "read", desc := "([BII[I)Z" } : Jvm.MethodName)) ∈ lw_all := lw_g (lw_at lw_m3 174 rfl) rfl
theorem q752 : (Jvm.Cond.methodLink "VeilMint$Signing" (53 : Nat) ({ cls := "VeilMint$Modulus", name := "isZero", desc := "([I)Z" } : Jvm.MethodName)) ∈ lw_all := lw_g (lw_at lw_m3 175 rfl) rfl
theorem q753 : (Jvm.Cond.methodLink "VeilMint$Signing" (70 : Nat) ({ cls := "java/lang/System", name := "arraycopy", desc := "(Ljava/lang/Object;ILjava/lang/Object;II)V" } : Jvm.MethodName)) ∈ lw_all := lw_g (lw_at lw_m3 176 rfl) rfl
theorem q754 : (Jvm.Cond.methodLink "VeilMint$Signing" (82 : Nat) ({ cls := "java/lang/Integer", name := "numberOfLeadingZeros", desc := "(I)I" } : Jvm.MethodName)) ∈ lw_all := lw_g (lw_at lw_m3 177 rfl) rfl
theorem q758 : (Jvm.Cond.fieldLink "VeilMint$Signing" (9 : Nat) "VeilMint$Signing" "digest" "LVeilMint$Digest384;") ∈ lw_all := lw_g (lw_at lw_m3 181 rfl) rfl
theorem q759 : (Jvm.Cond.fieldLink "VeilMint$Signing" (15 : Nat) "VeilMint$Signing" "refusal" "LVeilMint$Refusal;") ∈ lw_all := lw_g (lw_at lw_m3 182 rfl) rfl
theorem q760 : (Jvm.Cond.fieldLink "VeilMint$Signing" (19 : Nat) "VeilMint$Signing" "size" "I") ∈ lw_all := lw_g (lw_at lw_m3 183 rfl) rfl
theorem q761 : (Jvm.Cond.fieldLink "VeilMint$Signing" (23 : Nat) "VeilMint$Signing" "salts" "I") ∈ lw_all := lw_g (lw_at lw_m3 184 rfl) rfl
theorem q762 : (Jvm.Cond.fieldLink "VeilMint$Signing" (88 : Nat) "VeilMint$Signing" "bits" "I") ∈ lw_all := lw_g (lw_at lw_m3 185 rfl) rfl
theorem q763 : (Jvm.Cond.fieldLink "VeilMint$Signing" (38 : Nat) "VeilMint$Signing" "n" "LVeilMint$Modulus;") ∈ lw_all := lw_g (lw_at lw_m3 186 rfl) rfl
theorem q764 : (Jvm.Cond.fieldLink "VeilMint$Signing" (42 : Nat) "VeilMint$Signing" "power" "[I") ∈ lw_all := lw_g (lw_at lw_m3 187 rfl) rfl
theorem q765 : (Jvm.Cond.fieldLink "VeilMint$Signing" (46 : Nat) "VeilMint$Signing" "secret" "[I") ∈ lw_all := lw_g (lw_at lw_m3 188 rfl) rfl
theorem q766 : (Jvm.Cond.fieldLink "VeilMint$Signing" (57 : Nat) "VeilMint$Signing" "x" "[I") ∈ lw_all := lw_g (lw_at lw_m3 189 rfl) rfl
theorem q767 : (Jvm.Cond.fieldLink "VeilMint$Signing" (60 : Nat) "VeilMint$Signing" "y" "[I") ∈ lw_all := lw_g (lw_at lw_m3 190 rfl) rfl
theorem q768 : (Jvm.Cond.fieldLink "VeilMint$Signing" (63 : Nat) "VeilMint$Signing" "z" "[I") ∈ lw_all := lw_g (lw_at lw_m3 191 rfl) rfl
theorem q769 : (Jvm.Cond.fieldLink "VeilMint$Signing" (66 : Nat) "VeilMint$Signing" "shown" "[B") ∈ lw_all := lw_g (lw_at lw_m3 192 rfl) rfl
theorem q770 : (Jvm.Cond.fieldLink "VeilMint$Signing" (76 : Nat) "VeilMint$Signing" "coded" "[B") ∈ lw_all := lw_g (lw_at lw_m3 193 rfl) rfl
theorem q771 : (Jvm.Cond.fieldLink "VeilMint$Signing" (79 : Nat) "VeilMint$Signing" "masked" "[B") ∈ lw_all := lw_g (lw_at lw_m3 194 rfl) rfl
theorem q772 : (Jvm.Cond.laysFinal "VeilMint$Signing" "VeilMint$Signing" "digest" "LVeilMint$Digest384;") ∈ lw_all := lw_g (lw_at lw_m3 195 rfl) rfl
theorem q773 : (Jvm.Cond.soleField "VeilMint$Signing" "digest") ∈ lw_all := lw_g (lw_at lw_m3 196 rfl) rfl
theorem q774 : (Jvm.Cond.laysFinal "VeilMint$Signing" "VeilMint$Signing" "refusal" "LVeilMint$Refusal;") ∈ lw_all := lw_g (lw_at lw_m3 197 rfl) rfl
theorem q775 : (Jvm.Cond.soleField "VeilMint$Signing" "refusal") ∈ lw_all := lw_g (lw_at lw_m3 198 rfl) rfl
theorem q776 : (Jvm.Cond.laysFinal "VeilMint$Signing" "VeilMint$Signing" "size" "I") ∈ lw_all := lw_g (lw_at lw_m3 199 rfl) rfl
theorem q777 : (Jvm.Cond.soleField "VeilMint$Signing" "size") ∈ lw_all := lw_g (lw_at lw_m3 200 rfl) rfl
theorem q778 : (Jvm.Cond.laysFinal "VeilMint$Signing" "VeilMint$Signing" "salts" "I") ∈ lw_all := lw_g (lw_at lw_m3 201 rfl) rfl
theorem q779 : (Jvm.Cond.soleField "VeilMint$Signing" "salts") ∈ lw_all := lw_g (lw_at lw_m3 202 rfl) rfl
theorem q780 : (Jvm.Cond.laysFinal "VeilMint$Signing" "VeilMint$Signing" "bits" "I") ∈ lw_all := lw_g (lw_at lw_m3 203 rfl) rfl
theorem q781 : (Jvm.Cond.soleField "VeilMint$Signing" "bits") ∈ lw_all := lw_g (lw_at lw_m3 204 rfl) rfl
theorem q782 : (Jvm.Cond.laysFinal "VeilMint$Signing" "VeilMint$Signing" "n" "LVeilMint$Modulus;") ∈ lw_all := lw_g (lw_at lw_m3 205 rfl) rfl
theorem q783 : (Jvm.Cond.soleField "VeilMint$Signing" "n") ∈ lw_all := lw_g (lw_at lw_m3 206 rfl) rfl
theorem q784 : (Jvm.Cond.laysFinal "VeilMint$Signing" "VeilMint$Signing" "power" "[I") ∈ lw_all := lw_g (lw_at lw_m3 207 rfl) rfl
theorem q785 : (Jvm.Cond.soleField "VeilMint$Signing" "power") ∈ lw_all := lw_g (lw_at lw_m3 208 rfl) rfl
theorem q786 : (Jvm.Cond.laysFinal "VeilMint$Signing" "VeilMint$Signing" "secret" "[I") ∈ lw_all := lw_g (lw_at lw_m3 209 rfl) rfl
theorem q787 : (Jvm.Cond.soleField "VeilMint$Signing" "secret") ∈ lw_all := lw_g (lw_at lw_m3 210 rfl) rfl
theorem q788 : (Jvm.Cond.laysFinal "VeilMint$Signing" "VeilMint$Signing" "x" "[I") ∈ lw_all := lw_g (lw_at lw_m3 211 rfl) rfl
theorem q789 : (Jvm.Cond.soleField "VeilMint$Signing" "x") ∈ lw_all := lw_g (lw_at lw_m3 212 rfl) rfl
theorem q790 : (Jvm.Cond.laysFinal "VeilMint$Signing" "VeilMint$Signing" "y" "[I") ∈ lw_all := lw_g (lw_at lw_m3 213 rfl) rfl
theorem q791 : (Jvm.Cond.soleField "VeilMint$Signing" "y") ∈ lw_all := lw_g (lw_at lw_m3 214 rfl) rfl
theorem q792 : (Jvm.Cond.laysFinal "VeilMint$Signing" "VeilMint$Signing" "z" "[I") ∈ lw_all := lw_g (lw_at lw_m3 215 rfl) rfl
theorem q793 : (Jvm.Cond.soleField "VeilMint$Signing" "z") ∈ lw_all := lw_g (lw_at lw_m3 216 rfl) rfl
theorem q794 : (Jvm.Cond.laysFinal "VeilMint$Signing" "VeilMint$Signing" "shown" "[B") ∈ lw_all := lw_g (lw_at lw_m3 217 rfl) rfl
theorem q795 : (Jvm.Cond.soleField "VeilMint$Signing" "shown") ∈ lw_all := lw_g (lw_at lw_m3 218 rfl) rfl
theorem q796 : (Jvm.Cond.laysFinal "VeilMint$Signing" "VeilMint$Signing" "coded" "[B") ∈ lw_all := lw_g (lw_at lw_m3 219 rfl) rfl
theorem q797 : (Jvm.Cond.soleField "VeilMint$Signing" "coded") ∈ lw_all := lw_g (lw_at lw_m3 220 rfl) rfl
theorem q798 : (Jvm.Cond.laysFinal "VeilMint$Signing" "VeilMint$Signing" "masked" "[B") ∈ lw_all := lw_g (lw_at lw_m3 221 rfl) rfl
theorem q799 : (Jvm.Cond.soleField "VeilMint$Signing" "masked") ∈ lw_all := lw_g (lw_at lw_m3 222 rfl) rfl
theorem q800 : (Jvm.Cond.laysFinal "VeilMint$Signing" "VeilMint$Key" "id" "[B") ∈ lw_all := lw_g (lw_at lw_m3 223 rfl) rfl
theorem q801 : (Jvm.Cond.laysFinal "VeilMint$Signing" "VeilMint$Key" "type" "I") ∈ lw_all := lw_g (lw_at lw_m3 224 rfl) rfl
theorem q802 : (Jvm.Cond.lays "VeilMint$Signing" "VeilMint$Key" "live" "Z") ∈ lw_all := lw_g (lw_at lw_m3 225 rfl) rfl
theorem q803 : (Jvm.Cond.superclass "VeilMint$Signing" "VeilMint$Key") ∈ lw_all := lw_g (lw_at lw_m3 226 rfl) rfl
theorem q811 : (Jvm.Cond.selects "VeilMint$Signing" ({ cls := "VeilMint$Key", name := "publish", desc := "([B)V" } : Jvm.MethodName) ({ cls := "VeilMint$Signing", name := "publish", desc := "([B)V" } : Jvm.MethodName)) ∈ lw_all := lw_g (lw_at lw_m3 234 rfl) rfl
theorem q812 : (Jvm.Cond.instanceMethod ({ cls := "VeilMint$Signing", name := "publish", desc := "([B)V" } : Jvm.MethodName)) ∈ lw_all := lw_g (lw_at lw_m3 235 rfl) rfl
theorem q813 : (Jvm.Cond.code ({ cls := "VeilMint$Signing", name := "publish", desc := "([B)V" } : Jvm.MethodName) prog_13_method_8_code (2 : Nat) (Option.none : Option Jvm.ClassFile.FieldType)) ∈ lw_all := lw_g (lw_at lw_m3 236 rfl) rfl
theorem q846 : (Jvm.Cond.selects "VeilMint$Signing" ({ cls := "VeilMint$Key", name := "publics", desc := "()I" } : Jvm.MethodName) ({ cls := "VeilMint$Signing", name := "publics", desc := "()I" } : Jvm.MethodName)) ∈ lw_all := lw_g (lw_at lw_m4 29 rfl) rfl
theorem q847 : (Jvm.Cond.instanceMethod ({ cls := "VeilMint$Signing", name := "publics", desc := "()I" } : Jvm.MethodName)) ∈ lw_all := lw_g (lw_at lw_m4 30 rfl) rfl
theorem q848 : (Jvm.Cond.code ({ cls := "VeilMint$Signing", name := "publics", desc := "()I" } : Jvm.MethodName) prog_13_method_7_code (1 : Nat) (Option.some Jvm.ClassFile.FieldType.int)) ∈ lw_all := lw_g (lw_at lw_m4 31 rfl) rfl
theorem q920 : (Jvm.Cond.selects "VeilMint$Signing" ({ cls := "VeilMint$Key", name := "blind", desc := "()I" } : Jvm.MethodName) ({ cls := "VeilMint$Signing", name := "blind", desc := "()I" } : Jvm.MethodName)) ∈ lw_all := lw_g (lw_at lw_m4 103 rfl) rfl
theorem q921 : (Jvm.Cond.instanceMethod ({ cls := "VeilMint$Signing", name := "blind", desc := "()I" } : Jvm.MethodName)) ∈ lw_all := lw_g (lw_at lw_m4 104 rfl) rfl
theorem q922 : (Jvm.Cond.code ({ cls := "VeilMint$Signing", name := "blind", desc := "()I" } : Jvm.MethodName) prog_13_method_4_code (1 : Nat) (Option.some Jvm.ClassFile.FieldType.int)) ∈ lw_all := lw_g (lw_at lw_m4 105 rfl) rfl
theorem q1023 : (Jvm.Cond.selects "VeilMint$Signing" ({ cls := "VeilMint$Key", name := "blinds", desc := "([B[BI[BI)[I" } : Jvm.MethodName) ({ cls := "VeilMint$Signing", name := "blinds", desc := "([B[BI[BI)[I" } : Jvm.MethodName)) ∈ lw_all := lw_g (lw_at lw_m4 206 rfl) rfl
theorem q1024 : (Jvm.Cond.instanceMethod ({ cls := "VeilMint$Signing", name := "blinds", desc := "([B[BI[BI)[I" } : Jvm.MethodName)) ∈ lw_all := lw_g (lw_at lw_m4 207 rfl) rfl
theorem q1025 : (Jvm.Cond.code ({ cls := "VeilMint$Signing", name := "blinds", desc := "([B[BI[BI)[I" } : Jvm.MethodName) prog_13_method_14_code (11 : Nat) (Option.some (Jvm.ClassFile.FieldType.array Jvm.ClassFile.FieldType.int))) ∈ lw_all := lw_g (lw_at lw_m4 208 rfl) rfl
theorem q1026 : (Jvm.Cond.methodLink "VeilMint$Signing" (128 : Nat) ({ cls := "VeilMint$Signing", name := "encode", desc := "([BI[BI)V" } : Jvm.MethodName)) ∈ lw_all := lw_g (lw_at lw_m4 209 rfl) rfl
theorem q1027 : (Jvm.Cond.privateMethod ({ cls := "VeilMint$Signing", name := "encode", desc := "([BI[BI)V" } : Jvm.MethodName)) ∈ lw_tbl := lw_at lw_m4 210 rfl
theorem q1028 : (Jvm.Cond.instanceMethod ({ cls := "VeilMint$Signing", name := "encode", desc := "([BI[BI)V" } : Jvm.MethodName)) ∈ lw_all := lw_g (lw_at lw_m4 211 rfl) rfl
theorem q1029 : (Jvm.Cond.code ({ cls := "VeilMint$Signing", name := "encode", desc := "([BI[BI)V" } : Jvm.MethodName) prog_13_method_12_code (9 : Nat) (Option.none : Option Jvm.ClassFile.FieldType)) ∈ lw_all := lw_g (lw_at lw_m4 212 rfl) rfl
theorem q1030 : (Jvm.Cond.methodLink "VeilMint$Signing" (112 : Nat) ({ cls := "VeilMint$Signing", name := "length", desc := "()I" } : Jvm.MethodName)) ∈ lw_all := lw_g (lw_at lw_m4 213 rfl) rfl
theorem q1031 : (Jvm.Cond.privateMethod ({ cls := "VeilMint$Signing", name := "length", desc := "()I" } : Jvm.MethodName)) ∈ lw_tbl := lw_at lw_m4 214 rfl
theorem q1032 : (Jvm.Cond.instanceMethod ({ cls := "VeilMint$Signing", name := "length", desc := "()I" } : Jvm.MethodName)) ∈ lw_all := lw_g (lw_at lw_m4 215 rfl) rfl
theorem q1033 : (Jvm.Cond.code ({ cls := "VeilMint$Signing", name := "length", desc := "()I" } : Jvm.MethodName) prog_13_method_11_code (1 : Nat) (Option.some Jvm.ClassFile.FieldType.int)) ∈ lw_all := lw_g (lw_at lw_m4 216 rfl) rfl
theorem q1034 : (Jvm.Cond.methodLink "VeilMint$Signing" (116 : Nat) ({ cls := "VeilMint$Signing", name := "salted", desc := "([BI[BI)[B" } : Jvm.MethodName)) ∈ lw_all := lw_g (lw_at lw_m4 217 rfl) rfl
theorem q1035 : (Jvm.Cond.privateMethod ({ cls := "VeilMint$Signing", name := "salted", desc := "([BI[BI)[B" } : Jvm.MethodName)) ∈ lw_tbl := lw_at lw_m4 218 rfl
theorem q1036 : (Jvm.Cond.instanceMethod ({ cls := "VeilMint$Signing", name := "salted", desc := "([BI[BI)[B" } : Jvm.MethodName)) ∈ lw_all := lw_g (lw_at lw_m4 219 rfl) rfl
theorem q1037 : (Jvm.Cond.code ({ cls := "VeilMint$Signing", name := "salted", desc := "([BI[BI)[B" } : Jvm.MethodName) prog_13_method_9_code (6 : Nat) (Option.some (Jvm.ClassFile.FieldType.array Jvm.ClassFile.FieldType.byte))) ∈ lw_all := lw_g (lw_at lw_m4 220 rfl) rfl
theorem q1038 : (Jvm.Cond.methodLink "VeilMint$Signing" (91 : Nat) ({ cls := "VeilMint$Digest384", name := "begin", desc := "()LVeilMint$Digest;" } : Jvm.MethodName)) ∈ lw_all := lw_g (lw_at lw_m4 221 rfl) rfl
theorem q1039 : (Jvm.Cond.methodLink "VeilMint$Signing" (97 : Nat) ({ cls := "VeilMint$Digest", name := "put", desc := "([BII)LVeilMint$Digest;" } : Jvm.MethodName)) ∈ lw_all := lw_g (lw_at lw_m4 222 rfl) rfl
theorem q1040 : (Jvm.Cond.methodLink "VeilMint$Signing" (103 : Nat) ({ cls := "VeilMint$Digest", name := "end", desc := "()[B" } : Jvm.MethodName)) ∈ lw_all := lw_g (lw_at lw_m4 223 rfl) rfl
theorem q1041 : (Jvm.Cond.methodLink "VeilMint$Signing" (107 : Nat) ({ cls := "VeilMint$Digest384", name := "put", desc := "(I)LVeilMint$Digest;" } : Jvm.MethodName)) ∈ lw_all := lw_g (lw_at lw_m4 224 rfl) rfl
theorem q1042 : (Jvm.Cond.methodLink "VeilMint$Signing" (110 : Nat) ({ cls := "VeilMint$Digest384", name := "put", desc := "([BII)LVeilMint$Digest;" } : Jvm.MethodName)) ∈ lw_all := lw_g (lw_at lw_m4 225 rfl) rfl
theorem q1046 : (Jvm.Cond.methodLink "VeilMint$Signing" (120 : Nat) ({ cls := "VeilMint$Signing", name := "mask", desc := "([BI[BI)V" } : Jvm.MethodName)) ∈ lw_all := lw_g (lw_at lw_m4 229 rfl) rfl
theorem q1047 : (Jvm.Cond.privateMethod ({ cls := "VeilMint$Signing", name := "mask", desc := "([BI[BI)V" } : Jvm.MethodName)) ∈ lw_tbl := lw_at lw_m4 230 rfl
theorem q1048 : (Jvm.Cond.instanceMethod ({ cls := "VeilMint$Signing", name := "mask", desc := "([BI[BI)V" } : Jvm.MethodName)) ∈ lw_all := lw_g (lw_at lw_m4 231 rfl) rfl
theorem q1049 : (Jvm.Cond.code ({ cls := "VeilMint$Signing", name := "mask", desc := "([BI[BI)V" } : Jvm.MethodName) prog_13_method_10_code (8 : Nat) (Option.none : Option Jvm.ClassFile.FieldType)) ∈ lw_all := lw_g (lw_at lw_m4 232 rfl) rfl
theorem q1050 : (Jvm.Cond.methodLink "VeilMint$Signing" (111 : Nat) ({ cls := "VeilMint$Digest", name := "put", desc := "(I)LVeilMint$Digest;" } : Jvm.MethodName)) ∈ lw_all := lw_g (lw_at lw_m4 233 rfl) rfl
theorem q1051 : (Jvm.Cond.methodLink "VeilMint$Signing" (133 : Nat) ({ cls := "VeilMint$Modulus", name := "inverse", desc := "([I[I)Z" } : Jvm.MethodName)) ∈ lw_all := lw_g (lw_at lw_m4 234 rfl) rfl
theorem q1052 : (Jvm.Cond.methodLink "VeilMint$Signing" (137 : Nat) ({ cls := "VeilMint$Modulus", name := "in", desc := "([I[I)V" } : Jvm.MethodName)) ∈ lw_all := lw_g (lw_at lw_m4 235 rfl) rfl
theorem q1053 : (Jvm.Cond.methodLink "VeilMint$Signing" (141 : Nat) ({ cls := "VeilMint$Modulus", name := "pow", desc := "([I[I[I)V" } : Jvm.MethodName)) ∈ lw_all := lw_g (lw_at lw_m4 236 rfl) rfl
theorem q1054 : (Jvm.Cond.methodLink "VeilMint$Signing" (145 : Nat) ({ cls := "VeilMint$Modulus", name := "mul", desc := "([I[I[I)V" } : Jvm.MethodName)) ∈ lw_all := lw_g (lw_at lw_m4 237 rfl) rfl
theorem q1055 : (Jvm.Cond.methodLink "VeilMint$Signing" (124 : Nat) ({ cls := "VeilMint$Modulus", name := "write", desc := "([I[BII)V" } : Jvm.MethodName)) ∈ lw_all := lw_g (lw_at lw_m4 238 rfl) rfl
theorem q1063 : (Jvm.Cond.fieldLinkNest "VeilMint$Signing" (160 : Nat) "VeilMint$Asking" "input" "[B" "VeilMint") ∈ lw_tbl := lw_at lw_m5 6 rfl
theorem q1066 : (Jvm.Cond.fieldLinkNest "VeilMint$Signing" (155 : Nat) "VeilMint$Asking" "kept" "[I" "VeilMint") ∈ lw_tbl := lw_at lw_m5 9 rfl
theorem q1085 : (Jvm.Cond.selects "VeilMint$Signing" ({ cls := "VeilMint$Key", name := "blinded", desc := "()I" } : Jvm.MethodName) ({ cls := "VeilMint$Signing", name := "blinded", desc := "()I" } : Jvm.MethodName)) ∈ lw_all := lw_g (lw_at lw_m5 28 rfl) rfl
theorem q1086 : (Jvm.Cond.instanceMethod ({ cls := "VeilMint$Signing", name := "blinded", desc := "()I" } : Jvm.MethodName)) ∈ lw_all := lw_g (lw_at lw_m5 29 rfl) rfl
theorem q1087 : (Jvm.Cond.code ({ cls := "VeilMint$Signing", name := "blinded", desc := "()I" } : Jvm.MethodName) prog_13_method_2_code (1 : Nat) (Option.some Jvm.ClassFile.FieldType.int)) ∈ lw_all := lw_g (lw_at lw_m5 30 rfl) rfl
theorem q1106 : (Jvm.Cond.selects "VeilMint$Signing" ({ cls := "VeilMint$Key", name := "chance", desc := "()I" } : Jvm.MethodName) ({ cls := "VeilMint$Signing", name := "chance", desc := "()I" } : Jvm.MethodName)) ∈ lw_all := lw_g (lw_at lw_m5 49 rfl) rfl
theorem q1107 : (Jvm.Cond.instanceMethod ({ cls := "VeilMint$Signing", name := "chance", desc := "()I" } : Jvm.MethodName)) ∈ lw_all := lw_g (lw_at lw_m5 50 rfl) rfl
theorem q1108 : (Jvm.Cond.code ({ cls := "VeilMint$Signing", name := "chance", desc := "()I" } : Jvm.MethodName) prog_13_method_5_code (1 : Nat) (Option.some Jvm.ClassFile.FieldType.int)) ∈ lw_all := lw_g (lw_at lw_m5 51 rfl) rfl
theorem q1152 : (Jvm.Cond.selects "VeilMint$Signing" ({ cls := "VeilMint$Key", name := "issues", desc := "([BII[B)V" } : Jvm.MethodName) ({ cls := "VeilMint$Signing", name := "issues", desc := "([BII[B)V" } : Jvm.MethodName)) ∈ lw_all := lw_g (lw_at lw_m5 95 rfl) rfl
theorem q1153 : (Jvm.Cond.instanceMethod ({ cls := "VeilMint$Signing", name := "issues", desc := "([BII[B)V" } : Jvm.MethodName)) ∈ lw_all := lw_g (lw_at lw_m5 96 rfl) rfl
theorem q1154 : (Jvm.Cond.code ({ cls := "VeilMint$Signing", name := "issues", desc := "([BII[B)V" } : Jvm.MethodName) prog_13_method_15_code (5 : Nat) (Option.none : Option Jvm.ClassFile.FieldType)) ∈ lw_all := lw_g (lw_at lw_m5 97 rfl) rfl
theorem q1155 : (Jvm.Cond.methodLink "VeilMint$Signing" (148 : Nat) ({ cls := "VeilMint$Modulus", name := "from", desc := "([I[I)V" } : Jvm.MethodName)) ∈ lw_all := lw_g (lw_at lw_m5 98 rfl) rfl
theorem q1156 : (Jvm.Cond.methodLink "VeilMint$Signing" (151 : Nat) ({ cls := "VeilMint$Modulus", name := "compare", desc := "([I[I)I" } : Jvm.MethodName)) ∈ lw_all := lw_g (lw_at lw_m5 99 rfl) rfl
theorem q1163 : (Jvm.Cond.selects "VeilMint$Signing" ({ cls := "VeilMint$Key", name := "answers", desc := "(I)I" } : Jvm.MethodName) ({ cls := "VeilMint$Signing", name := "answers", desc := "(I)I" } : Jvm.MethodName)) ∈ lw_all := lw_g (lw_at lw_m5 106 rfl) rfl
theorem q1164 : (Jvm.Cond.instanceMethod ({ cls := "VeilMint$Signing", name := "answers", desc := "(I)I" } : Jvm.MethodName)) ∈ lw_all := lw_g (lw_at lw_m5 107 rfl) rfl
theorem q1165 : (Jvm.Cond.code ({ cls := "VeilMint$Signing", name := "answers", desc := "(I)I" } : Jvm.MethodName) prog_13_method_6_code (2 : Nat) (Option.some Jvm.ClassFile.FieldType.int)) ∈ lw_all := lw_g (lw_at lw_m5 108 rfl) rfl
theorem q1184 : (Jvm.Cond.selects "VeilMint$Signing" ({ cls := "VeilMint$Key", name := "proved", desc := "()I" } : Jvm.MethodName) ({ cls := "VeilMint$Signing", name := "proved", desc := "()I" } : Jvm.MethodName)) ∈ lw_all := lw_g (lw_at lw_m5 127 rfl) rfl
theorem q1185 : (Jvm.Cond.instanceMethod ({ cls := "VeilMint$Signing", name := "proved", desc := "()I" } : Jvm.MethodName)) ∈ lw_all := lw_g (lw_at lw_m5 128 rfl) rfl
theorem q1186 : (Jvm.Cond.code ({ cls := "VeilMint$Signing", name := "proved", desc := "()I" } : Jvm.MethodName) prog_13_method_3_code (1 : Nat) (Option.some Jvm.ClassFile.FieldType.int)) ∈ lw_all := lw_g (lw_at lw_m5 129 rfl) rfl
theorem q1198 : (Jvm.Cond.selects "VeilMint$Signing" ({ cls := "VeilMint$Key", name := "isRight", desc := "([BI[BI)Z" } : Jvm.MethodName) ({ cls := "VeilMint$Signing", name := "isRight", desc := "([BI[BI)Z" } : Jvm.MethodName)) ∈ lw_all := lw_g (lw_at lw_m5 141 rfl) rfl
theorem q1199 : (Jvm.Cond.instanceMethod ({ cls := "VeilMint$Signing", name := "isRight", desc := "([BI[BI)Z" } : Jvm.MethodName)) ∈ lw_all := lw_g (lw_at lw_m5 142 rfl) rfl
theorem q1200 : (Jvm.Cond.code ({ cls := "VeilMint$Signing", name := "isRight", desc := "([BI[BI)Z" } : Jvm.MethodName) prog_13_method_17_code (5 : Nat) (Option.some Jvm.ClassFile.FieldType.boolean)) ∈ lw_all := lw_g (lw_at lw_m5 143 rfl) rfl
theorem q1201 : (Jvm.Cond.methodLink "VeilMint$Signing" (167 : Nat) ({ cls := "VeilMint$Signing", name := "isCode", desc := "([BI)Z" } : Jvm.MethodName)) ∈ lw_all := lw_g (lw_at lw_m5 144 rfl) rfl
theorem q1202 : (Jvm.Cond.privateMethod ({ cls := "VeilMint$Signing", name := "isCode", desc := "([BI)Z" } : Jvm.MethodName)) ∈ lw_tbl := lw_at lw_m5 145 rfl
theorem q1203 : (Jvm.Cond.instanceMethod ({ cls := "VeilMint$Signing", name := "isCode", desc := "([BI)Z" } : Jvm.MethodName)) ∈ lw_all := lw_g (lw_at lw_m5 146 rfl) rfl
theorem q1204 : (Jvm.Cond.code ({ cls := "VeilMint$Signing", name := "isCode", desc := "([BI)Z" } : Jvm.MethodName) prog_13_method_13_code (11 : Nat) (Option.some Jvm.ClassFile.FieldType.boolean)) ∈ lw_all := lw_g (lw_at lw_m5 147 rfl) rfl
theorem q1310 : (Jvm.Cond.selects "VeilMint$Signing" ({ cls := "VeilMint$Key", name := "finishes", desc := "([LVeilMint$Asking;II[B[B)V" } : Jvm.MethodName) ({ cls := "VeilMint$Signing", name := "finishes", desc := "([LVeilMint$Asking;II[B[B)V" } : Jvm.MethodName)) ∈ lw_all := lw_g (lw_at lw_m6 13 rfl) rfl
theorem q1311 : (Jvm.Cond.instanceMethod ({ cls := "VeilMint$Signing", name := "finishes", desc := "([LVeilMint$Asking;II[B[B)V" } : Jvm.MethodName)) ∈ lw_all := lw_g (lw_at lw_m6 14 rfl) rfl
theorem q1312 : (Jvm.Cond.code ({ cls := "VeilMint$Signing", name := "finishes", desc := "([LVeilMint$Asking;II[B[B)V" } : Jvm.MethodName) prog_13_method_16_code (7 : Nat) (Option.none : Option Jvm.ClassFile.FieldType)) ∈ lw_all := lw_g (lw_at lw_m6 15 rfl) rfl
theorem q1313 : (Jvm.Cond.methodLink "VeilMint$Signing" (163 : Nat) ({ cls := "VeilMint$Signing", name := "isRight", desc := "([BI[BI)Z" } : Jvm.MethodName)) ∈ lw_all := lw_g (lw_at lw_m6 16 rfl) rfl
theorem q2141 : (Jvm.Cond.selects "VeilMint$Signing" ({ cls := "VeilMint$Signing", name := "isRight", desc := "([BI[BI)Z" } : Jvm.MethodName) ({ cls := "VeilMint$Signing", name := "isRight", desc := "([BI[BI)Z" } : Jvm.MethodName)) ∈ lw_all := lw_g (lw_at lw_m9 124 rfl) rfl
theorem q2154 : (Jvm.Cond.castable "VeilMint$Signing" "java/lang/Object") ∈ lw_tbl := lw_at lw_m9 137 rfl
theorem q2160 : (Jvm.Cond.castable "VeilMint$Signing" "VeilMint$Key") ∈ lw_tbl := lw_at lw_m9 143 rfl
theorem in_X15 : ∀ w ∈ wsX150, w ∈ lw_all := lw_in wsX150 [800, 801, 802, 772, 774, 776, 778, 780, 782, 784, 786, 788, 790, 792, 794, 796, 798] (by decide +kernel) (by decide +kernel)
