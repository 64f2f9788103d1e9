set_option maxRecDepth 100000
theorem dX10_encodes_5 : decode cX10_encodes 5 = .ok (.aaload, 1) := by decide +kernel
theorem dX10_encodes_6 : decode cX10_encodes 6 = .ok (.astore 7, 2) := by decide +kernel
theorem dX10_encodes_8 : decode cX10_encodes 8 = .ok (.aload 7, 2) := by decide +kernel
theorem dX10_encodes_10 : decode cX10_encodes 10 = .ok (.invokestatic 588, 3) := by decide +kernel
theorem dX10_encodes_13 : decode cX10_encodes 13 = .ok (.istore 8, 2) := by decide +kernel
theorem dX10_encodes_15 : decode cX10_encodes 15 = .ok (.aload_n 0, 1) := by decide +kernel
theorem dX10_encodes_16 : decode cX10_encodes 16 = .ok (.getfield 513, 3) := by decide +kernel
theorem dX10_encodes_19 : decode cX10_encodes 19 = .ok (.iload_n 1, 1) := by decide +kernel
theorem dX10_encodes_20 : decode cX10_encodes 20 = .ok (.iaload, 1) := by decide +kernel
theorem dX10_encodes_21 : decode cX10_encodes 21 = .ok (.istore 9, 2) := by decide +kernel
theorem dX10_encodes_23 : decode cX10_encodes 23 = .ok (.aload_n 0, 1) := by decide +kernel
theorem dX10_encodes_24 : decode cX10_encodes 24 = .ok (.aload_n 2, 1) := by decide +kernel
theorem dX10_encodes_25 : decode cX10_encodes 25 = .ok (.iload_n 3, 1) := by decide +kernel
theorem dX10_encodes_26 : decode cX10_encodes 26 = .ok (.aload 4, 2) := by decide +kernel
theorem dX10_encodes_28 : decode cX10_encodes 28 = .ok (.iload 5, 2) := by decide +kernel
theorem dX10_encodes_30 : decode cX10_encodes 30 = .ok (.iload 9, 2) := by decide +kernel
theorem dX10_encodes_32 : decode cX10_encodes 32 = .ok (.invokevirtual 592, 3) := by decide +kernel
theorem dX10_encodes_35 : decode cX10_encodes 35 = .ok (.iload 8, 2) := by decide +kernel
theorem dX10_encodes_37 : decode cX10_encodes 37 = .ok (.bipush 49, 2) := by decide +kernel
theorem dX10_encodes_39 : decode cX10_encodes 39 = .ok (.isub, 1) := by decide +kernel
theorem dX10_encodes_40 : decode cX10_encodes 40 = .ok (.istore 10, 2) := by decide +kernel
theorem dX10_encodes_42 : decode cX10_encodes 42 = .ok (.aload_n 0, 1) := by decide +kernel
theorem dX10_encodes_43 : decode cX10_encodes 43 = .ok (.aload_n 0, 1) := by decide +kernel
theorem dX10_encodes_44 : decode cX10_encodes 44 = .ok (.getfield 546, 3) := by decide +kernel
theorem dX10_encodes_47 : decode cX10_encodes 47 = .ok (.iconst 0, 1) := by decide +kernel
theorem dX10_encodes_48 : decode cX10_encodes 48 = .ok (.iload 10, 2) := by decide +kernel
theorem dX10_encodes_50 : decode cX10_encodes 50 = .ok (.invokevirtual 596, 3) := by decide +kernel
theorem dX10_encodes_53 : decode cX10_encodes 53 = .ok (.iconst 0, 1) := by decide +kernel
theorem dX10_encodes_54 : decode cX10_encodes 54 = .ok (.istore 11, 2) := by decide +kernel
theorem dX10_encodes_56 : decode cX10_encodes 56 = .ok (.iload 11, 2) := by decide +kernel
theorem dX10_encodes_58 : decode cX10_encodes 58 = .ok (.iload 10, 2) := by decide +kernel
theorem dX10_encodes_60 : decode cX10_encodes 60 = .ok (.if_icmp .ge 75, 3) := by decide +kernel
theorem dX10_encodes_63 : decode cX10_encodes 63 = .ok (.iload 11, 2) := by decide +kernel
theorem dX10_encodes_65 : decode cX10_encodes 65 = .ok (.iload 10, 2) := by decide +kernel
theorem dX10_encodes_67 : decode cX10_encodes 67 = .ok (.iload 9, 2) := by decide +kernel
theorem dX10_encodes_69 : decode cX10_encodes 69 = .ok (.isub, 1) := by decide +kernel
theorem dX10_encodes_70 : decode cX10_encodes 70 = .ok (.iconst 1, 1) := by decide +kernel
theorem dX10_encodes_71 : decode cX10_encodes 71 = .ok (.isub, 1) := by decide +kernel
theorem dX10_encodes_72 : decode cX10_encodes 72 = .ok (.if_icmp .ge 7, 3) := by decide +kernel
theorem dX10_encodes_75 : decode cX10_encodes 75 = .ok (.iconst 0, 1) := by decide +kernel
theorem dX10_encodes_76 : decode cX10_encodes 76 = .ok (.goto 33, 3) := by decide +kernel
theorem dX10_encodes_79 : decode cX10_encodes 79 = .ok (.iload 11, 2) := by decide +kernel
theorem dX10_encodes_81 : decode cX10_encodes 81 = .ok (.iload 10, 2) := by decide +kernel
theorem dX10_encodes_83 : decode cX10_encodes 83 = .ok (.iload 9, 2) := by decide +kernel
theorem dX10_encodes_85 : decode cX10_encodes 85 = .ok (.isub, 1) := by decide +kernel
theorem dX10_encodes_86 : decode cX10_encodes 86 = .ok (.iconst 1, 1) := by decide +kernel
theorem dX10_encodes_87 : decode cX10_encodes 87 = .ok (.isub, 1) := by decide +kernel
theorem dX10_encodes_88 : decode cX10_encodes 88 = .ok (.if_icmp .ne 7, 3) := by decide +kernel
theorem dX10_encodes_91 : decode cX10_encodes 91 = .ok (.iconst 1, 1) := by decide +kernel
theorem dX10_encodes_92 : decode cX10_encodes 92 = .ok (.goto 17, 3) := by decide +kernel
theorem dX10_encodes_95 : decode cX10_encodes 95 = .ok (.aload 4, 2) := by decide +kernel
theorem dX10_encodes_97 : decode cX10_encodes 97 = .ok (.iload 5, 2) := by decide +kernel
theorem dX10_encodes_99 : decode cX10_encodes 99 = .ok (.iload 11, 2) := by decide +kernel
theorem dX10_encodes_101 : decode cX10_encodes 101 = .ok (.iadd, 1) := by decide +kernel
theorem dX10_encodes_102 : decode cX10_encodes 102 = .ok (.iload 10, 2) := by decide +kernel
theorem dX10_encodes_104 : decode cX10_encodes 104 = .ok (.iload 9, 2) := by decide +kernel
theorem dX10_encodes_106 : decode cX10_encodes 106 = .ok (.isub, 1) := by decide +kernel
theorem dX10_encodes_107 : decode cX10_encodes 107 = .ok (.isub, 1) := by decide +kernel
theorem dX10_encodes_108 : decode cX10_encodes 108 = .ok (.baload, 1) := by decide +kernel
theorem dX10_encodes_109 : decode cX10_encodes 109 = .ok (.istore 12, 2) := by decide +kernel
theorem dX10_encodes_111 : decode cX10_encodes 111 = .ok (.aload_n 0, 1) := by decide +kernel
theorem dX10_encodes_112 : decode cX10_encodes 112 = .ok (.getfield 540, 3) := by decide +kernel
theorem dX10_encodes_115 : decode cX10_encodes 115 = .ok (.iload 11, 2) := by decide +kernel
theorem dX10_encodes_117 : decode cX10_encodes 117 = .ok (.iload 12, 2) := by decide +kernel
theorem dX10_encodes_119 : decode cX10_encodes 119 = .ok (.aload_n 0, 1) := by decide +kernel
theorem dX10_encodes_120 : decode cX10_encodes 120 = .ok (.getfield 543, 3) := by decide +kernel
theorem dX10_encodes_123 : decode cX10_encodes 123 = .ok (.iload 11, 2) := by decide +kernel
theorem dX10_encodes_125 : decode cX10_encodes 125 = .ok (.baload, 1) := by decide +kernel
theorem dX10_encodes_126 : decode cX10_encodes 126 = .ok (.ixor, 1) := by decide +kernel
theorem dX10_encodes_127 : decode cX10_encodes 127 = .ok (.i2b, 1) := by decide +kernel
theorem dX10_encodes_128 : decode cX10_encodes 128 = .ok (.bastore, 1) := by decide +kernel
theorem dX10_encodes_129 : decode cX10_encodes 129 = .ok (.iinc 11 1, 3) := by decide +kernel
theorem dX10_encodes_132 : decode cX10_encodes 132 = .ok (.goto (-76), 3) := by decide +kernel
theorem dX10_encodes_135 : decode cX10_encodes 135 = .ok (.aload_n 0, 1) := by decide +kernel
theorem dX10_encodes_136 : decode cX10_encodes 136 = .ok (.getfield 540, 3) := by decide +kernel
theorem dX10_encodes_139 : decode cX10_encodes 139 = .ok (.iconst 0, 1) := by decide +kernel
theorem dX10_encodes_140 : decode cX10_encodes 140 = .ok (.dup2, 1) := by decide +kernel
theorem dX10_encodes_141 : decode cX10_encodes 141 = .ok (.baload, 1) := by decide +kernel
theorem dX10_encodes_142 : decode cX10_encodes 142 = .ok (.aload 7, 2) := by decide +kernel
theorem dX10_encodes_144 : decode cX10_encodes 144 = .ok (.invokestatic 599, 3) := by decide +kernel
theorem dX10_encodes_147 : decode cX10_encodes 147 = .ok (.i2b, 1) := by decide +kernel
theorem dX10_encodes_148 : decode cX10_encodes 148 = .ok (.iand, 1) := by decide +kernel
theorem dX10_encodes_149 : decode cX10_encodes 149 = .ok (.i2b, 1) := by decide +kernel
theorem dX10_encodes_150 : decode cX10_encodes 150 = .ok (.bastore, 1) := by decide +kernel
theorem dX10_encodes_151 : decode cX10_encodes 151 = .ok (.iconst 0, 1) := by decide +kernel
theorem dX10_encodes_152 : decode cX10_encodes 152 = .ok (.istore 11, 2) := by decide +kernel
theorem dX10_encodes_154 : decode cX10_encodes 154 = .ok (.iload 11, 2) := by decide +kernel
theorem dX10_encodes_156 : decode cX10_encodes 156 = .ok (.bipush 48, 2) := by decide +kernel
theorem dX10_encodes_158 : decode cX10_encodes 158 = .ok (.if_icmp .ge 26, 3) := by decide +kernel
theorem dX10_encodes_161 : decode cX10_encodes 161 = .ok (.aload_n 0, 1) := by decide +kernel
theorem dX10_encodes_162 : decode cX10_encodes 162 = .ok (.getfield 540, 3) := by decide +kernel
theorem dX10_encodes_165 : decode cX10_encodes 165 = .ok (.iload 10, 2) := by decide +kernel
theorem dX10_encodes_167 : decode cX10_encodes 167 = .ok (.iload 11, 2) := by decide +kernel
theorem dX10_encodes_169 : decode cX10_encodes 169 = .ok (.iadd, 1) := by decide +kernel
theorem dX10_encodes_170 : decode cX10_encodes 170 = .ok (.aload_n 0, 1) := by decide +kernel
theorem dX10_encodes_171 : decode cX10_encodes 171 = .ok (.getfield 546, 3) := by decide +kernel
theorem dX10_encodes_174 : decode cX10_encodes 174 = .ok (.iload 11, 2) := by decide +kernel
theorem dX10_encodes_176 : decode cX10_encodes 176 = .ok (.baload, 1) := by decide +kernel
theorem dX10_encodes_177 : decode cX10_encodes 177 = .ok (.bastore, 1) := by decide +kernel
theorem dX10_encodes_178 : decode cX10_encodes 178 = .ok (.iinc 11 1, 3) := by decide +kernel
theorem dX10_encodes_181 : decode cX10_encodes 181 = .ok (.goto (-27), 3) := by decide +kernel
theorem dX10_encodes_184 : decode cX10_encodes 184 = .ok (.aload_n 0, 1) := by decide +kernel
theorem dX10_encodes_185 : decode cX10_encodes 185 = .ok (.getfield 540, 3) := by decide +kernel
theorem dX10_encodes_188 : decode cX10_encodes 188 = .ok (.iload 8, 2) := by decide +kernel
theorem dX10_encodes_190 : decode cX10_encodes 190 = .ok (.iconst 1, 1) := by decide +kernel
theorem dX10_encodes_191 : decode cX10_encodes 191 = .ok (.isub, 1) := by decide +kernel
theorem dX10_encodes_192 : decode cX10_encodes 192 = .ok (.bipush (-68), 2) := by decide +kernel
theorem dX10_encodes_194 : decode cX10_encodes 194 = .ok (.bastore, 1) := by decide +kernel
theorem dX10_encodes_195 : decode cX10_encodes 195 = .ok (.aload_n 0, 1) := by decide +kernel
theorem dX10_encodes_196 : decode cX10_encodes 196 = .ok (.getfield 540, 3) := by decide +kernel
theorem dX10_encodes_199 : decode cX10_encodes 199 = .ok (.iconst 0, 1) := by decide +kernel
theorem dX10_encodes_200 : decode cX10_encodes 200 = .ok (.iload 8, 2) := by decide +kernel
theorem dX10_encodes_202 : decode cX10_encodes 202 = .ok (.aload 6, 2) := by decide +kernel
theorem dX10_encodes_204 : decode cX10_encodes 204 = .ok (.aload 7, 2) := by decide +kernel
theorem dX10_encodes_206 : decode cX10_encodes 206 = .ok (.getfield 13, 3) := by decide +kernel
theorem dX10_encodes_209 : decode cX10_encodes 209 = .ok (.invokestatic 217, 3) := by decide +kernel
theorem dX10_encodes_212 : decode cX10_encodes 212 = .ok (.return_, 1) := by decide +kernel
abbrev cX10_encodedSize : ByteArray := prog_15_method_65_code
def yX10_encodedSize : MethodName := ⟨RX10, "encodedSize", "(LVeilMintModel$Mod;)I"⟩
theorem dX10_encodedSize_0 : decode cX10_encodedSize 0 = .ok (.aload_n 0, 1) := by decide +kernel
theorem dX10_encodedSize_1 : decode cX10_encodedSize 1 = .ok (.invokevirtual 585, 3) := by decide +kernel
theorem dX10_encodedSize_4 : decode cX10_encodedSize 4 = .ok (.iconst 1, 1) := by decide +kernel
theorem dX10_encodedSize_5 : decode cX10_encodedSize 5 = .ok (.isub, 1) := by decide +kernel
theorem dX10_encodedSize_6 : decode cX10_encodedSize 6 = .ok (.bipush 7, 2) := by decide +kernel
theorem dX10_encodedSize_8 : decode cX10_encodedSize 8 = .ok (.iadd, 1) := by decide +kernel
theorem dX10_encodedSize_9 : decode cX10_encodedSize 9 = .ok (.bipush 8, 2) := by decide +kernel
theorem dX10_encodedSize_11 : decode cX10_encodedSize 11 = .ok (.idiv, 1) := by decide +kernel
theorem dX10_encodedSize_12 : decode cX10_encodedSize 12 = .ok (.ireturn, 1) := by decide +kernel
abbrev cX10_salted : ByteArray := prog_15_method_63_code
def yX10_salted : MethodName := ⟨RX10, "salted", "([BI[BII)V"⟩
theorem dX10_salted_0 : decode cX10_salted 0 = .ok (.aload_n 0, 1) := by decide +kernel
theorem dX10_salted_1 : decode cX10_salted 1 = .ok (.iconst 0, 1) := by decide +kernel
theorem dX10_salted_2 : decode cX10_salted 2 = .ok (.putfield 243, 3) := by decide +kernel
theorem dX10_salted_5 : decode cX10_salted 5 = .ok (.aload_n 0, 1) := by decide +kernel
theorem dX10_salted_6 : decode cX10_salted 6 = .ok (.aload_n 1, 1) := by decide +kernel
theorem dX10_salted_7 : decode cX10_salted 7 = .ok (.iload_n 2, 1) := by decide +kernel
theorem dX10_salted_8 : decode cX10_salted 8 = .ok (.bipush 98, 2) := by decide +kernel
theorem dX10_salted_10 : decode cX10_salted 10 = .ok (.invokevirtual 325, 3) := by decide +kernel
theorem dX10_salted_13 : decode cX10_salted 13 = .ok (.aload_n 0, 1) := by decide +kernel
theorem dX10_salted_14 : decode cX10_salted 14 = .ok (.invokevirtual 340, 3) := by decide +kernel
theorem dX10_salted_17 : decode cX10_salted 17 = .ok (.iconst 0, 1) := by decide +kernel
theorem dX10_salted_18 : decode cX10_salted 18 = .ok (.istore 6, 2) := by decide +kernel
theorem dX10_salted_20 : decode cX10_salted 20 = .ok (.iload 6, 2) := by decide +kernel
theorem dX10_salted_22 : decode cX10_salted 22 = .ok (.bipush 48, 2) := by decide +kernel
theorem dX10_salted_24 : decode cX10_salted 24 = .ok (.if_icmp .ge 23, 3) := by decide +kernel
theorem dX10_salted_27 : decode cX10_salted 27 = .ok (.aload_n 0, 1) := by decide +kernel
theorem dX10_salted_28 : decode cX10_salted 28 = .ok (.getfield 343, 3) := by decide +kernel
theorem dX10_salted_31 : decode cX10_salted 31 = .ok (.iload 6, 2) := by decide +kernel
theorem dX10_salted_33 : decode cX10_salted 33 = .ok (.aload_n 0, 1) := by decide +kernel
theorem dX10_salted_34 : decode cX10_salted 34 = .ok (.getfield 283, 3) := by decide +kernel
theorem dX10_salted_37 : decode cX10_salted 37 = .ok (.iload 6, 2) := by decide +kernel
theorem dX10_salted_39 : decode cX10_salted 39 = .ok (.baload, 1) := by decide +kernel
theorem dX10_salted_40 : decode cX10_salted 40 = .ok (.bastore, 1) := by decide +kernel
theorem dX10_salted_41 : decode cX10_salted 41 = .ok (.iinc 6 1, 3) := by decide +kernel
theorem dX10_salted_44 : decode cX10_salted 44 = .ok (.goto (-24), 3) := by decide +kernel
theorem dX10_salted_47 : decode cX10_salted 47 = .ok (.iconst 0, 1) := by decide +kernel
theorem dX10_salted_48 : decode cX10_salted 48 = .ok (.istore 6, 2) := by decide +kernel
theorem dX10_salted_50 : decode cX10_salted 50 = .ok (.iload 6, 2) := by decide +kernel
theorem dX10_salted_52 : decode cX10_salted 52 = .ok (.bipush 8, 2) := by decide +kernel
theorem dX10_salted_54 : decode cX10_salted 54 = .ok (.if_icmp .ge 14, 3) := by decide +kernel
theorem dX10_salted_57 : decode cX10_salted 57 = .ok (.aload_n 0, 1) := by decide +kernel
theorem dX10_salted_58 : decode cX10_salted 58 = .ok (.iconst 0, 1) := by decide +kernel
theorem dX10_salted_59 : decode cX10_salted 59 = .ok (.invokevirtual 246, 3) := by decide +kernel
theorem dX10_salted_62 : decode cX10_salted 62 = .ok (.iinc 6 1, 3) := by decide +kernel
theorem dX10_salted_65 : decode cX10_salted 65 = .ok (.goto (-15), 3) := by decide +kernel
theorem dX10_salted_68 : decode cX10_salted 68 = .ok (.aload_n 0, 1) := by decide +kernel
theorem dX10_salted_69 : decode cX10_salted 69 = .ok (.aload_n 0, 1) := by decide +kernel
theorem dX10_salted_70 : decode cX10_salted 70 = .ok (.getfield 343, 3) := by decide +kernel
theorem dX10_salted_73 : decode cX10_salted 73 = .ok (.iconst 0, 1) := by decide +kernel
theorem dX10_salted_74 : decode cX10_salted 74 = .ok (.bipush 48, 2) := by decide +kernel
theorem dX10_salted_76 : decode cX10_salted 76 = .ok (.invokevirtual 325, 3) := by decide +kernel
theorem dX10_salted_79 : decode cX10_salted 79 = .ok (.aload_n 0, 1) := by decide +kernel
theorem dX10_salted_80 : decode cX10_salted 80 = .ok (.aload_n 3, 1) := by decide +kernel
theorem dX10_salted_81 : decode cX10_salted 81 = .ok (.iload 4, 2) := by decide +kernel
theorem dX10_salted_83 : decode cX10_salted 83 = .ok (.iload 5, 2) := by decide +kernel
theorem dX10_salted_85 : decode cX10_salted 85 = .ok (.invokevirtual 325, 3) := by decide +kernel
theorem dX10_salted_88 : decode cX10_salted 88 = .ok (.aload_n 0, 1) := by decide +kernel
theorem dX10_salted_89 : decode cX10_salted 89 = .ok (.invokevirtual 340, 3) := by decide +kernel
theorem dX10_salted_92 : decode cX10_salted 92 = .ok (.iconst 0, 1) := by decide +kernel
theorem dX10_salted_93 : decode cX10_salted 93 = .ok (.istore 6, 2) := by decide +kernel
theorem dX10_salted_95 : decode cX10_salted 95 = .ok (.iload 6, 2) := by decide +kernel
theorem dX10_salted_97 : decode cX10_salted 97 = .ok (.bipush 48, 2) := by decide +kernel
theorem dX10_salted_99 : decode cX10_salted 99 = .ok (.if_icmp .ge 23, 3) := by decide +kernel
theorem dX10_salted_102 : decode cX10_salted 102 = .ok (.aload_n 0, 1) := by decide +kernel
theorem dX10_salted_103 : decode cX10_salted 103 = .ok (.getfield 546, 3) := by decide +kernel
theorem dX10_salted_106 : decode cX10_salted 106 = .ok (.iload 6, 2) := by decide +kernel
theorem dX10_salted_108 : decode cX10_salted 108 = .ok (.aload_n 0, 1) := by decide +kernel
theorem dX10_salted_109 : decode cX10_salted 109 = .ok (.getfield 283, 3) := by decide +kernel
theorem dX10_salted_112 : decode cX10_salted 112 = .ok (.iload 6, 2) := by decide +kernel
theorem dX10_salted_114 : decode cX10_salted 114 = .ok (.baload, 1) := by decide +kernel
theorem dX10_salted_115 : decode cX10_salted 115 = .ok (.bastore, 1) := by decide +kernel
theorem dX10_salted_116 : decode cX10_salted 116 = .ok (.iinc 6 1, 3) := by decide +kernel
theorem dX10_salted_119 : decode cX10_salted 119 = .ok (.goto (-24), 3) := by decide +kernel
theorem dX10_salted_122 : decode cX10_salted 122 = .ok (.return_, 1) := by decide +kernel
abbrev cX10_masks : ByteArray := prog_15_method_64_code
def yX10_masks : MethodName := ⟨RX10, "masks", "([BII)V"⟩
theorem dX10_masks_0 : decode cX10_masks 0 = .ok (.iconst 0, 1) := by decide +kernel
theorem dX10_masks_1 : decode cX10_masks 1 = .ok (.istore 4, 2) := by decide +kernel
theorem dX10_masks_3 : decode cX10_masks 3 = .ok (.bipush 48, 2) := by decide +kernel
theorem dX10_masks_5 : decode cX10_masks 5 = .ok (.iload 4, 2) := by decide +kernel
theorem dX10_masks_7 : decode cX10_masks 7 = .ok (.imul, 1) := by decide +kernel
theorem dX10_masks_8 : decode cX10_masks 8 = .ok (.iload_n 3, 1) := by decide +kernel
theorem dX10_masks_9 : decode cX10_masks 9 = .ok (.if_icmp .ge 80, 3) := by decide +kernel
theorem dX10_masks_12 : decode cX10_masks 12 = .ok (.aload_n 0, 1) := by decide +kernel
theorem dX10_masks_13 : decode cX10_masks 13 = .ok (.aload_n 1, 1) := by decide +kernel
theorem dX10_masks_14 : decode cX10_masks 14 = .ok (.iload_n 2, 1) := by decide +kernel
theorem dX10_masks_15 : decode cX10_masks 15 = .ok (.bipush 48, 2) := by decide +kernel
theorem dX10_masks_17 : decode cX10_masks 17 = .ok (.invokevirtual 325, 3) := by decide +kernel
theorem dX10_masks_20 : decode cX10_masks 20 = .ok (.aload_n 0, 1) := by decide +kernel
theorem dX10_masks_21 : decode cX10_masks 21 = .ok (.iconst 0, 1) := by decide +kernel
theorem dX10_masks_22 : decode cX10_masks 22 = .ok (.invokevirtual 334, 3) := by decide +kernel
theorem dX10_masks_25 : decode cX10_masks 25 = .ok (.aload_n 0, 1) := by decide +kernel
theorem dX10_masks_26 : decode cX10_masks 26 = .ok (.iload 4, 2) := by decide +kernel
theorem dX10_masks_28 : decode cX10_masks 28 = .ok (.invokevirtual 334, 3) := by decide +kernel
theorem dX10_masks_31 : decode cX10_masks 31 = .ok (.aload_n 0, 1) := by decide +kernel
theorem dX10_masks_32 : decode cX10_masks 32 = .ok (.invokevirtual 340, 3) := by decide +kernel
theorem dX10_masks_35 : decode cX10_masks 35 = .ok (.iconst 0, 1) := by decide +kernel
theorem dX10_masks_36 : decode cX10_masks 36 = .ok (.istore 5, 2) := by decide +kernel
theorem dX10_masks_38 : decode cX10_masks 38 = .ok (.iload 5, 2) := by decide +kernel
theorem dX10_masks_40 : decode cX10_masks 40 = .ok (.bipush 48, 2) := by decide +kernel
theorem dX10_masks_42 : decode cX10_masks 42 = .ok (.if_icmp .ge 41, 3) := by decide +kernel
theorem dX10_masks_45 : decode cX10_masks 45 = .ok (.bipush 48, 2) := by decide +kernel
theorem dX10_masks_47 : decode cX10_masks 47 = .ok (.iload 4, 2) := by decide +kernel
theorem dX10_masks_49 : decode cX10_masks 49 = .ok (.imul, 1) := by decide +kernel
theorem dX10_masks_50 : decode cX10_masks 50 = .ok (.iload 5, 2) := by decide +kernel
theorem dX10_masks_52 : decode cX10_masks 52 = .ok (.iadd, 1) := by decide +kernel
theorem dX10_masks_53 : decode cX10_masks 53 = .ok (.iload_n 3, 1) := by decide +kernel
theorem dX10_masks_54 : decode cX10_masks 54 = .ok (.if_icmp .ge 29, 3) := by decide +kernel
theorem dX10_masks_57 : decode cX10_masks 57 = .ok (.aload_n 0, 1) := by decide +kernel
theorem dX10_masks_58 : decode cX10_masks 58 = .ok (.getfield 543, 3) := by decide +kernel
theorem dX10_masks_61 : decode cX10_masks 61 = .ok (.bipush 48, 2) := by decide +kernel
theorem dX10_masks_63 : decode cX10_masks 63 = .ok (.iload 4, 2) := by decide +kernel
theorem dX10_masks_65 : decode cX10_masks 65 = .ok (.imul, 1) := by decide +kernel
theorem dX10_masks_66 : decode cX10_masks 66 = .ok (.iload 5, 2) := by decide +kernel
theorem dX10_masks_68 : decode cX10_masks 68 = .ok (.iadd, 1) := by decide +kernel
theorem dX10_masks_69 : decode cX10_masks 69 = .ok (.aload_n 0, 1) := by decide +kernel
theorem dX10_masks_70 : decode cX10_masks 70 = .ok (.getfield 283, 3) := by decide +kernel
theorem dX10_masks_73 : decode cX10_masks 73 = .ok (.iload 5, 2) := by decide +kernel
theorem dX10_masks_75 : decode cX10_masks 75 = .ok (.baload, 1) := by decide +kernel
theorem dX10_masks_76 : decode cX10_masks 76 = .ok (.bastore, 1) := by decide +kernel
theorem dX10_masks_77 : decode cX10_masks 77 = .ok (.iinc 5 1, 3) := by decide +kernel
theorem dX10_masks_80 : decode cX10_masks 80 = .ok (.goto (-42), 3) := by decide +kernel
theorem dX10_masks_83 : decode cX10_masks 83 = .ok (.iinc 4 1, 3) := by decide +kernel
theorem dX10_masks_86 : decode cX10_masks 86 = .ok (.goto (-83), 3) := by decide +kernel
theorem dX10_masks_89 : decode cX10_masks 89 = .ok (.return_, 1) := by decide +kernel
abbrev cX10_clear : ByteArray := prog_15_method_66_code
def yX10_clear : MethodName := ⟨RX10, "clear", "(LVeilMintModel$Mod;)I"⟩
theorem dX10_clear_0 : decode cX10_clear 0 = .ok (.sipush 255, 3) := by decide +kernel
theorem dX10_clear_3 : decode cX10_clear 3 = .ok (.bipush 8, 2) := by decide +kernel
theorem dX10_clear_5 : decode cX10_clear 5 = .ok (.aload_n 0, 1) := by decide +kernel
theorem dX10_clear_6 : decode cX10_clear 6 = .ok (.invokestatic 588, 3) := by decide +kernel
theorem dX10_clear_9 : decode cX10_clear 9 = .ok (.imul, 1) := by decide +kernel
theorem dX10_clear_10 : decode cX10_clear 10 = .ok (.aload_n 0, 1) := by decide +kernel
theorem dX10_clear_11 : decode cX10_clear 11 = .ok (.invokevirtual 585, 3) := by decide +kernel
theorem dX10_clear_14 : decode cX10_clear 14 = .ok (.iconst 1, 1) := by decide +kernel
theorem dX10_clear_15 : decode cX10_clear 15 = .ok (.isub, 1) := by decide +kernel
theorem dX10_clear_16 : decode cX10_clear 16 = .ok (.isub, 1) := by decide +kernel
theorem dX10_clear_17 : decode cX10_clear 17 = .ok (.ishr, 1) := by decide +kernel
theorem dX10_clear_18 : decode cX10_clear 18 = .ok (.ireturn, 1) := by decide +kernel
abbrev cX10_byE : ByteArray := prog_15_method_68_code
def yX10_byE : MethodName := ⟨RX10, "byE", "(I[I[I)V"⟩
theorem dX10_byE_0 : decode cX10_byE 0 = .ok (.aload_n 0, 1) := by decide +kernel
theorem dX10_byE_1 : decode cX10_byE 1 = .ok (.getfield 558, 3) := by decide +kernel
theorem dX10_byE_4 : decode cX10_byE 4 = .ok (.iconst 0, 1) := by decide +kernel
theorem dX10_byE_5 : decode cX10_byE 5 = .ok (.aload_n 0, 1) := by decide +kernel
theorem dX10_byE_6 : decode cX10_byE 6 = .ok (.getfield 507, 3) := by decide +kernel
theorem dX10_byE_9 : decode cX10_byE 9 = .ok (.iload_n 1, 1) := by decide +kernel
theorem dX10_byE_10 : decode cX10_byE 10 = .ok (.iaload, 1) := by decide +kernel
theorem dX10_byE_11 : decode cX10_byE 11 = .ok (.iastore, 1) := by decide +kernel
theorem dX10_byE_12 : decode cX10_byE 12 = .ok (.aload_n 0, 1) := by decide +kernel
theorem dX10_byE_13 : decode cX10_byE 13 = .ok (.aload_n 0, 1) := by decide +kernel
theorem dX10_byE_14 : decode cX10_byE 14 = .ok (.getfield 503, 3) := by decide +kernel
theorem dX10_byE_17 : decode cX10_byE 17 = .ok (.iload_n 1, 1) := by decide +kernel
theorem dX10_byE_18 : decode cX10_byE 18 = .ok (.aaload, 1) := by decide +kernel
theorem dX10_byE_19 : decode cX10_byE 19 = .ok (.aload_n 2, 1) := by decide +kernel
theorem dX10_byE_20 : decode cX10_byE 20 = .ok (.aload_n 0, 1) := by decide +kernel
theorem dX10_byE_21 : decode cX10_byE 21 = .ok (.getfield 558, 3) := by decide +kernel
theorem dX10_byE_24 : decode cX10_byE 24 = .ok (.bipush 17, 2) := by decide +kernel
theorem dX10_byE_26 : decode cX10_byE 26 = .ok (.aload_n 3, 1) := by decide +kernel
theorem dX10_byE_27 : decode cX10_byE 27 = .ok (.invokevirtual 213, 3) := by decide +kernel
theorem dX10_byE_30 : decode cX10_byE 30 = .ok (.return_, 1) := by decide +kernel
abbrev cX10_issue : ByteArray := prog_15_method_89_code
def yX10_issue : MethodName := ⟨RX10, "issue", "()I"⟩
theorem dX10_issue_0 : decode cX10_issue 0 = .ok (.aload_n 0, 1) := by decide +kernel
theorem dX10_issue_1 : decode cX10_issue 1 = .ok (.invokevirtual 612, 3) := by decide +kernel
theorem dX10_issue_4 : decode cX10_issue 4 = .ok (.istore_n 1, 1) := by decide +kernel
theorem dX10_issue_5 : decode cX10_issue 5 = .ok (.iload_n 1, 1) := by decide +kernel
theorem dX10_issue_6 : decode cX10_issue 6 = .ok (.iconst 3, 1) := by decide +kernel
theorem dX10_issue_7 : decode cX10_issue 7 = .ok (.if_icmp .lt 19, 3) := by decide +kernel
theorem dX10_issue_10 : decode cX10_issue 10 = .ok (.aload_n 0, 1) := by decide +kernel
theorem dX10_issue_11 : decode cX10_issue 11 = .ok (.iconst 1, 1) := by decide +kernel
theorem dX10_issue_12 : decode cX10_issue 12 = .ok (.invokevirtual 658, 3) := by decide +kernel
theorem dX10_issue_15 : decode cX10_issue 15 = .ok (.ifCond .ne 14, 3) := by decide +kernel
theorem dX10_issue_18 : decode cX10_issue 18 = .ok (.aload_n 0, 1) := by decide +kernel
theorem dX10_issue_19 : decode cX10_issue 19 = .ok (.iconst 2, 1) := by decide +kernel
theorem dX10_issue_20 : decode cX10_issue 20 = .ok (.invokevirtual 658, 3) := by decide +kernel
theorem dX10_issue_23 : decode cX10_issue 23 = .ok (.ifCond .ne 6, 3) := by decide +kernel
theorem dX10_issue_26 : decode cX10_issue 26 = .ok (.bipush (-2), 2) := by decide +kernel
theorem dX10_issue_28 : decode cX10_issue 28 = .ok (.ireturn, 1) := by decide +kernel
theorem dX10_issue_29 : decode cX10_issue 29 = .ok (.aload_n 0, 1) := by decide +kernel
theorem dX10_issue_30 : decode cX10_issue 30 = .ok (.aload_n 0, 1) := by decide +kernel
theorem dX10_issue_31 : decode cX10_issue 31 = .ok (.getfield 534, 3) := by decide +kernel
theorem dX10_issue_34 : decode cX10_issue 34 = .ok (.iconst 1, 1) := by decide +kernel
theorem dX10_issue_35 : decode cX10_issue 35 = .ok (.baload, 1) := by decide +kernel
theorem dX10_issue_36 : decode cX10_issue 36 = .ok (.aload_n 0, 1) := by decide +kernel
theorem dX10_issue_37 : decode cX10_issue 37 = .ok (.getfield 534, 3) := by decide +kernel
theorem dX10_issue_40 : decode cX10_issue 40 = .ok (.iconst 2, 1) := by decide +kernel
theorem dX10_issue_41 : decode cX10_issue 41 = .ok (.baload, 1) := by decide +kernel
theorem dX10_issue_42 : decode cX10_issue 42 = .ok (.invokevirtual 661, 3) := by decide +kernel
theorem dX10_issue_45 : decode cX10_issue 45 = .ok (.istore_n 2, 1) := by decide +kernel
theorem dX10_issue_46 : decode cX10_issue 46 = .ok (.iload_n 2, 1) := by decide +kernel
theorem dX10_issue_47 : decode cX10_issue 47 = .ok (.ifCond .ge 6, 3) := by decide +kernel
theorem dX10_issue_50 : decode cX10_issue 50 = .ok (.bipush (-3), 2) := by decide +kernel
theorem dX10_issue_52 : decode cX10_issue 52 = .ok (.ireturn, 1) := by decide +kernel
theorem dX10_issue_53 : decode cX10_issue 53 = .ok (.iload_n 1, 1) := by decide +kernel
theorem dX10_issue_54 : decode cX10_issue 54 = .ok (.iconst 3, 1) := by decide +kernel
theorem dX10_issue_55 : decode cX10_issue 55 = .ok (.aload_n 0, 1) := by decide +kernel
theorem dX10_issue_56 : decode cX10_issue 56 = .ok (.getfield 492, 3) := by decide +kernel
theorem dX10_issue_59 : decode cX10_issue 59 = .ok (.iload_n 2, 1) := by decide +kernel
theorem dX10_issue_60 : decode cX10_issue 60 = .ok (.iaload, 1) := by decide +kernel
theorem dX10_issue_61 : decode cX10_issue 61 = .ok (.iconst 1, 1) := by decide +kernel
theorem dX10_issue_62 : decode cX10_issue 62 = .ok (.if_icmp .ne 8, 3) := by decide +kernel
theorem dX10_issue_65 : decode cX10_issue 65 = .ok (.bipush 97, 2) := by decide +kernel
theorem dX10_issue_67 : decode cX10_issue 67 = .ok (.goto 9, 3) := by decide +kernel
theorem dX10_issue_70 : decode cX10_issue 70 = .ok (.aload_n 0, 1) := by decide +kernel
theorem dX10_issue_71 : decode cX10_issue 71 = .ok (.getfield 510, 3) := by decide +kernel
theorem dX10_issue_74 : decode cX10_issue 74 = .ok (.iload_n 2, 1) := by decide +kernel
theorem dX10_issue_75 : decode cX10_issue 75 = .ok (.iaload, 1) := by decide +kernel
theorem dX10_issue_76 : decode cX10_issue 76 = .ok (.iadd, 1) := by decide +kernel
theorem dX10_issue_77 : decode cX10_issue 77 = .ok (.if_icmp .eq 6, 3) := by decide +kernel
theorem dX10_issue_80 : decode cX10_issue 80 = .ok (.bipush (-2), 2) := by decide +kernel
theorem dX10_issue_82 : decode cX10_issue 82 = .ok (.ireturn, 1) := by decide +kernel
theorem dX10_issue_83 : decode cX10_issue 83 = .ok (.aload_n 0, 1) := by decide +kernel
theorem dX10_issue_84 : decode cX10_issue 84 = .ok (.getfield 492, 3) := by decide +kernel
theorem dX10_issue_87 : decode cX10_issue 87 = .ok (.iload_n 2, 1) := by decide +kernel
theorem dX10_issue_88 : decode cX10_issue 88 = .ok (.iaload, 1) := by decide +kernel
theorem dX10_issue_89 : decode cX10_issue 89 = .ok (.iconst 1, 1) := by decide +kernel
theorem dX10_issue_90 : decode cX10_issue 90 = .ok (.if_icmp .ne 12, 3) := by decide +kernel
theorem dX10_issue_93 : decode cX10_issue 93 = .ok (.aload_n 0, 1) := by decide +kernel
theorem dX10_issue_94 : decode cX10_issue 94 = .ok (.iload_n 2, 1) := by decide +kernel
theorem dX10_issue_95 : decode cX10_issue 95 = .ok (.iconst 1, 1) := by decide +kernel
theorem dX10_issue_96 : decode cX10_issue 96 = .ok (.invokevirtual 664, 3) := by decide +kernel
theorem dX10_issue_99 : decode cX10_issue 99 = .ok (.goto 8, 3) := by decide +kernel
theorem dX10_issue_102 : decode cX10_issue 102 = .ok (.aload_n 0, 1) := by decide +kernel
theorem dX10_issue_103 : decode cX10_issue 103 = .ok (.iload_n 2, 1) := by decide +kernel
theorem dX10_issue_104 : decode cX10_issue 104 = .ok (.invokevirtual 667, 3) := by decide +kernel
theorem dX10_issue_107 : decode cX10_issue 107 = .ok (.ireturn, 1) := by decide +kernel
abbrev cX10_isType : ByteArray := prog_15_method_88_code
def yX10_isType : MethodName := ⟨RX10, "isType", "(I)Z"⟩
theorem dX10_isType_0 : decode cX10_isType 0 = .ok (.aload_n 0, 1) := by decide +kernel
theorem dX10_isType_1 : decode cX10_isType 1 = .ok (.getfield 534, 3) := by decide +kernel
theorem dX10_isType_4 : decode cX10_isType 4 = .ok (.iconst 0, 1) := by decide +kernel
theorem dX10_isType_5 : decode cX10_isType 5 = .ok (.baload, 1) := by decide +kernel
theorem dX10_isType_6 : decode cX10_isType 6 = .ok (.ifCond .ne 17, 3) := by decide +kernel
theorem dX10_isType_9 : decode cX10_isType 9 = .ok (.aload_n 0, 1) := by decide +kernel
theorem dX10_isType_10 : decode cX10_isType 10 = .ok (.getfield 534, 3) := by decide +kernel
theorem dX10_isType_13 : decode cX10_isType 13 = .ok (.iconst 1, 1) := by decide +kernel
theorem dX10_isType_14 : decode cX10_isType 14 = .ok (.baload, 1) := by decide +kernel
theorem dX10_isType_15 : decode cX10_isType 15 = .ok (.iload_n 1, 1) := by decide +kernel
theorem dX10_isType_16 : decode cX10_isType 16 = .ok (.if_icmp .ne 7, 3) := by decide +kernel
theorem dX10_isType_19 : decode cX10_isType 19 = .ok (.iconst 1, 1) := by decide +kernel
theorem dX10_isType_20 : decode cX10_isType 20 = .ok (.goto 4, 3) := by decide +kernel
theorem dX10_isType_23 : decode cX10_isType 23 = .ok (.iconst 0, 1) := by decide +kernel
theorem dX10_isType_24 : decode cX10_isType 24 = .ok (.ireturn, 1) := by decide +kernel
abbrev cX10_keyOf : ByteArray := prog_15_method_87_code
def yX10_keyOf : MethodName := ⟨RX10, "keyOf", "(II)I"⟩
theorem dX10_keyOf_0 : decode cX10_keyOf 0 = .ok (.iconst (-1), 1) := by decide +kernel
theorem dX10_keyOf_1 : decode cX10_keyOf 1 = .ok (.istore_n 3, 1) := by decide +kernel
theorem dX10_keyOf_2 : decode cX10_keyOf 2 = .ok (.aload_n 0, 1) := by decide +kernel
theorem dX10_keyOf_3 : decode cX10_keyOf 3 = .ok (.getfield 626, 3) := by decide +kernel
theorem dX10_keyOf_6 : decode cX10_keyOf 6 = .ok (.iconst 1, 1) := by decide +kernel
theorem dX10_keyOf_7 : decode cX10_keyOf 7 = .ok (.isub, 1) := by decide +kernel
theorem dX10_keyOf_8 : decode cX10_keyOf 8 = .ok (.istore 4, 2) := by decide +kernel
theorem dX10_keyOf_10 : decode cX10_keyOf 10 = .ok (.iload 4, 2) := by decide +kernel
theorem dX10_keyOf_12 : decode cX10_keyOf 12 = .ok (.ifCond .lt 50, 3) := by decide +kernel
theorem dX10_keyOf_15 : decode cX10_keyOf 15 = .ok (.aload_n 0, 1) := by decide +kernel
theorem dX10_keyOf_16 : decode cX10_keyOf 16 = .ok (.getfield 495, 3) := by decide +kernel
theorem dX10_keyOf_19 : decode cX10_keyOf 19 = .ok (.iload 4, 2) := by decide +kernel
theorem dX10_keyOf_21 : decode cX10_keyOf 21 = .ok (.baload, 1) := by decide +kernel
theorem dX10_keyOf_22 : decode cX10_keyOf 22 = .ok (.ifCond .eq 34, 3) := by decide +kernel
theorem dX10_keyOf_25 : decode cX10_keyOf 25 = .ok (.aload_n 0, 1) := by decide +kernel
theorem dX10_keyOf_26 : decode cX10_keyOf 26 = .ok (.getfield 492, 3) := by decide +kernel
theorem dX10_keyOf_29 : decode cX10_keyOf 29 = .ok (.iload 4, 2) := by decide +kernel
theorem dX10_keyOf_31 : decode cX10_keyOf 31 = .ok (.iaload, 1) := by decide +kernel
theorem dX10_keyOf_32 : decode cX10_keyOf 32 = .ok (.iload_n 1, 1) := by decide +kernel
theorem dX10_keyOf_33 : decode cX10_keyOf 33 = .ok (.if_icmp .ne 23, 3) := by decide +kernel
theorem dX10_keyOf_36 : decode cX10_keyOf 36 = .ok (.aload_n 0, 1) := by decide +kernel
theorem dX10_keyOf_37 : decode cX10_keyOf 37 = .ok (.getfield 499, 3) := by decide +kernel
theorem dX10_keyOf_40 : decode cX10_keyOf 40 = .ok (.bipush 32, 2) := by decide +kernel
theorem dX10_keyOf_42 : decode cX10_keyOf 42 = .ok (.iload 4, 2) := by decide +kernel
theorem dX10_keyOf_44 : decode cX10_keyOf 44 = .ok (.imul, 1) := by decide +kernel
theorem dX10_keyOf_45 : decode cX10_keyOf 45 = .ok (.bipush 31, 2) := by decide +kernel
theorem dX10_keyOf_47 : decode cX10_keyOf 47 = .ok (.iadd, 1) := by decide +kernel
theorem dX10_keyOf_48 : decode cX10_keyOf 48 = .ok (.baload, 1) := by decide +kernel
theorem dX10_keyOf_49 : decode cX10_keyOf 49 = .ok (.iload_n 2, 1) := by decide +kernel
theorem dX10_keyOf_50 : decode cX10_keyOf 50 = .ok (.if_icmp .ne 6, 3) := by decide +kernel
theorem dX10_keyOf_53 : decode cX10_keyOf 53 = .ok (.iload 4, 2) := by decide +kernel
theorem dX10_keyOf_55 : decode cX10_keyOf 55 = .ok (.istore_n 3, 1) := by decide +kernel
theorem dX10_keyOf_56 : decode cX10_keyOf 56 = .ok (.iinc 4 (-1), 3) := by decide +kernel
theorem dX10_keyOf_59 : decode cX10_keyOf 59 = .ok (.goto (-49), 3) := by decide +kernel
theorem dX10_keyOf_62 : decode cX10_keyOf 62 = .ok (.iload_n 3, 1) := by decide +kernel
theorem dX10_keyOf_63 : decode cX10_keyOf 63 = .ok (.ireturn, 1) := by decide +kernel
abbrev cX10_gives : ByteArray := prog_15_method_91_code
def yX10_gives : MethodName := ⟨RX10, "gives", "(II)I"⟩
theorem dX10_gives_0 : decode cX10_gives 0 = .ok (.iconst 1, 1) := by decide +kernel
theorem dX10_gives_1 : decode cX10_gives 1 = .ok (.istore_n 3, 1) := by decide +kernel
theorem dX10_gives_2 : decode cX10_gives 2 = .ok (.iconst 0, 1) := by decide +kernel
theorem dX10_gives_3 : decode cX10_gives 3 = .ok (.istore 4, 2) := by decide +kernel
theorem dX10_gives_5 : decode cX10_gives 5 = .ok (.iload 4, 2) := by decide +kernel
theorem dX10_gives_7 : decode cX10_gives 7 = .ok (.iload_n 2, 1) := by decide +kernel
theorem dX10_gives_8 : decode cX10_gives 8 = .ok (.if_icmp .ge 36, 3) := by decide +kernel
theorem dX10_gives_11 : decode cX10_gives 11 = .ok (.iload_n 3, 1) := by decide +kernel
theorem dX10_gives_12 : decode cX10_gives 12 = .ok (.ifCond .eq 32, 3) := by decide +kernel
theorem dX10_gives_15 : decode cX10_gives 15 = .ok (.aload_n 0, 1) := by decide +kernel
theorem dX10_gives_16 : decode cX10_gives 16 = .ok (.aload_n 0, 1) := by decide +kernel
theorem dX10_gives_17 : decode cX10_gives 17 = .ok (.getfield 534, 3) := by decide +kernel
theorem dX10_gives_20 : decode cX10_gives 20 = .ok (.iconst 3, 1) := by decide +kernel
theorem dX10_gives_21 : decode cX10_gives 21 = .ok (.bipush 49, 2) := by decide +kernel
theorem dX10_gives_23 : decode cX10_gives 23 = .ok (.iload 4, 2) := by decide +kernel
theorem dX10_gives_25 : decode cX10_gives 25 = .ok (.imul, 1) := by decide +kernel
theorem dX10_gives_26 : decode cX10_gives 26 = .ok (.iadd, 1) := by decide +kernel
theorem dX10_gives_27 : decode cX10_gives 27 = .ok (.aload_n 0, 1) := by decide +kernel
theorem dX10_gives_28 : decode cX10_gives 28 = .ok (.getfield 422, 3) := by decide +kernel
theorem dX10_gives_31 : decode cX10_gives 31 = .ok (.iload 4, 2) := by decide +kernel
theorem dX10_gives_33 : decode cX10_gives 33 = .ok (.aaload, 1) := by decide +kernel
theorem dX10_gives_34 : decode cX10_gives 34 = .ok (.invokevirtual 670, 3) := by decide +kernel
theorem dX10_gives_37 : decode cX10_gives 37 = .ok (.istore_n 3, 1) := by decide +kernel
theorem dX10_gives_38 : decode cX10_gives 38 = .ok (.iinc 4 1, 3) := by decide +kernel
theorem dX10_gives_41 : decode cX10_gives 41 = .ok (.goto (-36), 3) := by decide +kernel
theorem dX10_gives_44 : decode cX10_gives 44 = .ok (.aload_n 0, 1) := by decide +kernel
theorem dX10_gives_45 : decode cX10_gives 45 = .ok (.getfield 534, 3) := by decide +kernel
theorem dX10_gives_48 : decode cX10_gives 48 = .ok (.iconst 3, 1) := by decide +kernel
theorem dX10_gives_49 : decode cX10_gives 49 = .ok (.bipush 49, 2) := by decide +kernel
theorem dX10_gives_51 : decode cX10_gives 51 = .ok (.iload_n 2, 1) := by decide +kernel
theorem dX10_gives_52 : decode cX10_gives 52 = .ok (.imul, 1) := by decide +kernel
theorem dX10_gives_53 : decode cX10_gives 53 = .ok (.iadd, 1) := by decide +kernel
theorem dX10_gives_54 : decode cX10_gives 54 = .ok (.bipush 48, 2) := by decide +kernel
theorem dX10_gives_56 : decode cX10_gives 56 = .ok (.aload_n 0, 1) := by decide +kernel
theorem dX10_gives_57 : decode cX10_gives 57 = .ok (.getfield 567, 3) := by decide +kernel
theorem dX10_gives_60 : decode cX10_gives 60 = .ok (.bipush 12, 2) := by decide +kernel
theorem dX10_gives_62 : decode cX10_gives 62 = .ok (.invokestatic 217, 3) := by decide +kernel
theorem dX10_gives_65 : decode cX10_gives 65 = .ok (.iload_n 3, 1) := by decide +kernel
theorem dX10_gives_66 : decode cX10_gives 66 = .ok (.ifCond .eq 13, 3) := by decide +kernel
theorem dX10_gives_69 : decode cX10_gives 69 = .ok (.aload_n 0, 1) := by decide +kernel
theorem dX10_gives_70 : decode cX10_gives 70 = .ok (.getfield 567, 3) := by decide +kernel
theorem dX10_gives_73 : decode cX10_gives 73 = .ok (.invokestatic 622, 3) := by decide +kernel
theorem dX10_gives_76 : decode cX10_gives 76 = .ok (.ifCond .ne 6, 3) := by decide +kernel
theorem dX10_gives_79 : decode cX10_gives 79 = .ok (.bipush (-4), 2) := by decide +kernel
theorem dX10_gives_81 : decode cX10_gives 81 = .ok (.ireturn, 1) := by decide +kernel
theorem dX10_gives_82 : decode cX10_gives 82 = .ok (.iconst 0, 1) := by decide +kernel
theorem dX10_gives_83 : decode cX10_gives 83 = .ok (.istore 4, 2) := by decide +kernel
theorem dX10_gives_85 : decode cX10_gives 85 = .ok (.iload 4, 2) := by decide +kernel
theorem dX10_gives_87 : decode cX10_gives 87 = .ok (.iload_n 2, 1) := by decide +kernel
theorem dX10_gives_88 : decode cX10_gives 88 = .ok (.if_icmp .ge 33, 3) := by decide +kernel
theorem dX10_gives_91 : decode cX10_gives 91 = .ok (.aload_n 0, 1) := by decide +kernel
theorem dX10_gives_92 : decode cX10_gives 92 = .ok (.aload_n 0, 1) := by decide +kernel
theorem dX10_gives_93 : decode cX10_gives 93 = .ok (.getfield 475, 3) := by decide +kernel
theorem dX10_gives_96 : decode cX10_gives 96 = .ok (.iload_n 1, 1) := by decide +kernel
theorem dX10_gives_97 : decode cX10_gives 97 = .ok (.aaload, 1) := by decide +kernel
theorem dX10_gives_98 : decode cX10_gives 98 = .ok (.aload_n 0, 1) := by decide +kernel
theorem dX10_gives_99 : decode cX10_gives 99 = .ok (.getfield 422, 3) := by decide +kernel
theorem dX10_gives_102 : decode cX10_gives 102 = .ok (.iload 4, 2) := by decide +kernel
theorem dX10_gives_104 : decode cX10_gives 104 = .ok (.aaload, 1) := by decide +kernel
theorem dX10_gives_105 : decode cX10_gives 105 = .ok (.aload_n 0, 1) := by decide +kernel
theorem dX10_gives_106 : decode cX10_gives 106 = .ok (.getfield 429, 3) := by decide +kernel
theorem dX10_gives_109 : decode cX10_gives 109 = .ok (.iload 4, 2) := by decide +kernel
theorem dX10_gives_111 : decode cX10_gives 111 = .ok (.aaload, 1) := by decide +kernel
theorem dX10_gives_112 : decode cX10_gives 112 = .ok (.invokevirtual 446, 3) := by decide +kernel
theorem dX10_gives_115 : decode cX10_gives 115 = .ok (.iinc 4 1, 3) := by decide +kernel
theorem dX10_gives_118 : decode cX10_gives 118 = .ok (.goto (-33), 3) := by decide +kernel
theorem dX10_gives_121 : decode cX10_gives 121 = .ok (.iconst 0, 1) := by decide +kernel
theorem dX10_gives_122 : decode cX10_gives 122 = .ok (.istore 4, 2) := by decide +kernel
theorem dX10_gives_124 : decode cX10_gives 124 = .ok (.iload 4, 2) := by decide +kernel
theorem dX10_gives_126 : decode cX10_gives 126 = .ok (.iload_n 2, 1) := by decide +kernel
theorem dX10_gives_127 : decode cX10_gives 127 = .ok (.if_icmp .ge 25, 3) := by decide +kernel
theorem dX10_gives_130 : decode cX10_gives 130 = .ok (.aload_n 0, 1) := by decide +kernel
theorem dX10_gives_131 : decode cX10_gives 131 = .ok (.getfield 429, 3) := by decide +kernel
theorem dX10_gives_134 : decode cX10_gives 134 = .ok (.iload 4, 2) := by decide +kernel
theorem dX10_gives_136 : decode cX10_gives 136 = .ok (.aaload, 1) := by decide +kernel
theorem dX10_gives_137 : decode cX10_gives 137 = .ok (.getfield 136, 3) := by decide +kernel
theorem dX10_gives_140 : decode cX10_gives 140 = .ok (.ifCond .eq 6, 3) := by decide +kernel
theorem dX10_gives_143 : decode cX10_gives 143 = .ok (.bipush (-4), 2) := by decide +kernel
theorem dX10_gives_145 : decode cX10_gives 145 = .ok (.ireturn, 1) := by decide +kernel
theorem dX10_gives_146 : decode cX10_gives 146 = .ok (.iinc 4 1, 3) := by decide +kernel
theorem dX10_gives_149 : decode cX10_gives 149 = .ok (.goto (-25), 3) := by decide +kernel
theorem dX10_gives_152 : decode cX10_gives 152 = .ok (.aload_n 0, 1) := by decide +kernel
theorem dX10_gives_153 : decode cX10_gives 153 = .ok (.iload_n 1, 1) := by decide +kernel
theorem dX10_gives_154 : decode cX10_gives 154 = .ok (.iload_n 2, 1) := by decide +kernel
theorem dX10_gives_155 : decode cX10_gives 155 = .ok (.aload_n 0, 1) := by decide +kernel
theorem dX10_gives_156 : decode cX10_gives 156 = .ok (.getfield 567, 3) := by decide +kernel
theorem dX10_gives_159 : decode cX10_gives 159 = .ok (.invokevirtual 674, 3) := by decide +kernel
theorem dX10_gives_162 : decode cX10_gives 162 = .ok (.ifCond .ne 6, 3) := by decide +kernel
theorem dX10_gives_165 : decode cX10_gives 165 = .ok (.bipush (-4), 2) := by decide +kernel
theorem dX10_gives_167 : decode cX10_gives 167 = .ok (.ireturn, 1) := by decide +kernel
theorem dX10_gives_168 : decode cX10_gives 168 = .ok (.iconst 0, 1) := by decide +kernel
theorem dX10_gives_169 : decode cX10_gives 169 = .ok (.istore 4, 2) := by decide +kernel
theorem dX10_gives_171 : decode cX10_gives 171 = .ok (.iload 4, 2) := by decide +kernel
theorem dX10_gives_173 : decode cX10_gives 173 = .ok (.iload_n 2, 1) := by decide +kernel
theorem dX10_gives_174 : decode cX10_gives 174 = .ok (.if_icmp .ge 28, 3) := by decide +kernel
theorem dX10_gives_177 : decode cX10_gives 177 = .ok (.aload_n 0, 1) := by decide +kernel
theorem dX10_gives_178 : decode cX10_gives 178 = .ok (.getfield 429, 3) := by decide +kernel
theorem dX10_gives_181 : decode cX10_gives 181 = .ok (.iload 4, 2) := by decide +kernel
theorem dX10_gives_183 : decode cX10_gives 183 = .ok (.aaload, 1) := by decide +kernel
theorem dX10_gives_184 : decode cX10_gives 184 = .ok (.aload_n 0, 1) := by decide +kernel
theorem dX10_gives_185 : decode cX10_gives 185 = .ok (.getfield 537, 3) := by decide +kernel
theorem dX10_gives_188 : decode cX10_gives 188 = .ok (.bipush 49, 2) := by decide +kernel
theorem dX10_gives_190 : decode cX10_gives 190 = .ok (.iload 4, 2) := by decide +kernel
theorem dX10_gives_192 : decode cX10_gives 192 = .ok (.imul, 1) := by decide +kernel
theorem dX10_gives_193 : decode cX10_gives 193 = .ok (.invokestatic 405, 3) := by decide +kernel
theorem dX10_gives_196 : decode cX10_gives 196 = .ok (.iinc 4 1, 3) := by decide +kernel
theorem dX10_gives_199 : decode cX10_gives 199 = .ok (.goto (-28), 3) := by decide +kernel
theorem dX10_gives_202 : decode cX10_gives 202 = .ok (.aload_n 0, 1) := by decide +kernel
theorem dX10_gives_203 : decode cX10_gives 203 = .ok (.getfield 468, 3) := by decide +kernel
theorem dX10_gives_206 : decode cX10_gives 206 = .ok (.aload_n 0, 1) := by decide +kernel
theorem dX10_gives_207 : decode cX10_gives 207 = .ok (.getfield 537, 3) := by decide +kernel
theorem dX10_gives_210 : decode cX10_gives 210 = .ok (.bipush 49, 2) := by decide +kernel
theorem dX10_gives_212 : decode cX10_gives 212 = .ok (.iload_n 2, 1) := by decide +kernel
theorem dX10_gives_213 : decode cX10_gives 213 = .ok (.imul, 1) := by decide +kernel
theorem dX10_gives_214 : decode cX10_gives 214 = .ok (.bipush 48, 2) := by decide +kernel
theorem dX10_gives_216 : decode cX10_gives 216 = .ok (.invokestatic 232, 3) := by decide +kernel
theorem dX10_gives_219 : decode cX10_gives 219 = .ok (.aload_n 0, 1) := by decide +kernel
theorem dX10_gives_220 : decode cX10_gives 220 = .ok (.getfield 479, 3) := by decide +kernel
theorem dX10_gives_223 : decode cX10_gives 223 = .ok (.aload_n 0, 1) := by decide +kernel
theorem dX10_gives_224 : decode cX10_gives 224 = .ok (.getfield 537, 3) := by decide +kernel
theorem dX10_gives_227 : decode cX10_gives 227 = .ok (.bipush 49, 2) := by decide +kernel
theorem dX10_gives_229 : decode cX10_gives 229 = .ok (.iload_n 2, 1) := by decide +kernel
theorem dX10_gives_230 : decode cX10_gives 230 = .ok (.imul, 1) := by decide +kernel
theorem dX10_gives_231 : decode cX10_gives 231 = .ok (.bipush 48, 2) := by decide +kernel
theorem dX10_gives_233 : decode cX10_gives 233 = .ok (.iadd, 1) := by decide +kernel
theorem dX10_gives_234 : decode cX10_gives 234 = .ok (.bipush 48, 2) := by decide +kernel
theorem dX10_gives_236 : decode cX10_gives 236 = .ok (.invokestatic 232, 3) := by decide +kernel
theorem dX10_gives_239 : decode cX10_gives 239 = .ok (.aload_n 0, 1) := by decide +kernel
theorem dX10_gives_240 : decode cX10_gives 240 = .ok (.bipush 49, 2) := by decide +kernel
theorem dX10_gives_242 : decode cX10_gives 242 = .ok (.iload_n 2, 1) := by decide +kernel
theorem dX10_gives_243 : decode cX10_gives 243 = .ok (.imul, 1) := by decide +kernel
theorem dX10_gives_244 : decode cX10_gives 244 = .ok (.bipush 96, 2) := by decide +kernel
theorem dX10_gives_246 : decode cX10_gives 246 = .ok (.iadd, 1) := by decide +kernel
theorem dX10_gives_247 : decode cX10_gives 247 = .ok (.putfield 606, 3) := by decide +kernel
theorem dX10_gives_250 : decode cX10_gives 250 = .ok (.aload_n 0, 1) := by decide +kernel
theorem dX10_gives_251 : decode cX10_gives 251 = .ok (.getfield 606, 3) := by decide +kernel
theorem dX10_gives_254 : decode cX10_gives 254 = .ok (.ireturn, 1) := by decide +kernel
abbrev cX10_element : ByteArray := prog_15_method_32_code
def yX10_element : MethodName := ⟨RX10, "element", "([BILVeilMintModel$Spot;)Z"⟩
theorem dX10_element_0 : decode cX10_element 0 = .ok (.aload_n 1, 1) := by decide +kernel
theorem dX10_element_1 : decode cX10_element 1 = .ok (.iload_n 2, 1) := by decide +kernel
theorem dX10_element_2 : decode cX10_element 2 = .ok (.baload, 1) := by decide +kernel
theorem dX10_element_3 : decode cX10_element 3 = .ok (.iconst 2, 1) := by decide +kernel
theorem dX10_element_4 : decode cX10_element 4 = .ok (.if_icmp .eq 12, 3) := by decide +kernel
theorem dX10_element_7 : decode cX10_element 7 = .ok (.aload_n 1, 1) := by decide +kernel
theorem dX10_element_8 : decode cX10_element 8 = .ok (.iload_n 2, 1) := by decide +kernel
theorem dX10_element_9 : decode cX10_element 9 = .ok (.baload, 1) := by decide +kernel
theorem dX10_element_10 : decode cX10_element 10 = .ok (.iconst 3, 1) := by decide +kernel
theorem dX10_element_11 : decode cX10_element 11 = .ok (.if_icmp .eq 5, 3) := by decide +kernel
theorem dX10_element_14 : decode cX10_element 14 = .ok (.iconst 0, 1) := by decide +kernel
theorem dX10_element_15 : decode cX10_element 15 = .ok (.ireturn, 1) := by decide +kernel
theorem dX10_element_16 : decode cX10_element 16 = .ok (.aload_n 1, 1) := by decide +kernel
theorem dX10_element_17 : decode cX10_element 17 = .ok (.iload_n 2, 1) := by decide +kernel
theorem dX10_element_18 : decode cX10_element 18 = .ok (.iconst 1, 1) := by decide +kernel
theorem dX10_element_19 : decode cX10_element 19 = .ok (.iadd, 1) := by decide +kernel
theorem dX10_element_20 : decode cX10_element 20 = .ok (.bipush 48, 2) := by decide +kernel
theorem dX10_element_22 : decode cX10_element 22 = .ok (.aload_n 3, 1) := by decide +kernel
theorem dX10_element_23 : decode cX10_element 23 = .ok (.getfield 146, 3) := by decide +kernel
theorem dX10_element_26 : decode cX10_element 26 = .ok (.bipush 12, 2) := by decide +kernel
theorem dX10_element_28 : decode cX10_element 28 = .ok (.invokestatic 217, 3) := by decide +kernel
theorem dX10_element_31 : decode cX10_element 31 = .ok (.aload_n 3, 1) := by decide +kernel
theorem dX10_element_32 : decode cX10_element 32 = .ok (.getfield 146, 3) := by decide +kernel
theorem dX10_element_35 : decode cX10_element 35 = .ok (.getstatic 85, 3) := by decide +kernel
theorem dX10_element_38 : decode cX10_element 38 = .ok (.bipush 12, 2) := by decide +kernel
theorem dX10_element_40 : decode cX10_element 40 = .ok (.invokestatic 26, 3) := by decide +kernel
theorem dX10_element_43 : decode cX10_element 43 = .ok (.ifCond .lt 5, 3) := by decide +kernel
theorem dX10_element_46 : decode cX10_element 46 = .ok (.iconst 0, 1) := by decide +kernel
theorem dX10_element_47 : decode cX10_element 47 = .ok (.ireturn, 1) := by decide +kernel
theorem dX10_element_48 : decode cX10_element 48 = .ok (.aload_n 0, 1) := by decide +kernel
theorem dX10_element_49 : decode cX10_element 49 = .ok (.aload_n 3, 1) := by decide +kernel
theorem dX10_element_50 : decode cX10_element 50 = .ok (.getfield 146, 3) := by decide +kernel
theorem dX10_element_53 : decode cX10_element 53 = .ok (.aload_n 0, 1) := by decide +kernel
theorem dX10_element_54 : decode cX10_element 54 = .ok (.getfield 158, 3) := by decide +kernel
theorem dX10_element_57 : decode cX10_element 57 = .ok (.invokevirtual 221, 3) := by decide +kernel
theorem dX10_element_60 : decode cX10_element 60 = .ok (.aload_n 0, 1) := by decide +kernel
theorem dX10_element_61 : decode cX10_element 61 = .ok (.aload_n 0, 1) := by decide +kernel
theorem dX10_element_62 : decode cX10_element 62 = .ok (.getfield 158, 3) := by decide +kernel
theorem dX10_element_65 : decode cX10_element 65 = .ok (.aload_n 3, 1) := by decide +kernel
theorem dX10_element_66 : decode cX10_element 66 = .ok (.getfield 149, 3) := by decide +kernel
theorem dX10_element_69 : decode cX10_element 69 = .ok (.invokevirtual 225, 3) := by decide +kernel
theorem dX10_element_72 : decode cX10_element 72 = .ok (.ifCond .ne 5, 3) := by decide +kernel
theorem dX10_element_75 : decode cX10_element 75 = .ok (.iconst 0, 1) := by decide +kernel
theorem dX10_element_76 : decode cX10_element 76 = .ok (.ireturn, 1) := by decide +kernel
theorem dX10_element_77 : decode cX10_element 77 = .ok (.aload_n 3, 1) := by decide +kernel
theorem dX10_element_78 : decode cX10_element 78 = .ok (.iconst 0, 1) := by decide +kernel
theorem dX10_element_79 : decode cX10_element 79 = .ok (.putfield 136, 3) := by decide +kernel
theorem dX10_element_82 : decode cX10_element 82 = .ok (.aload_n 3, 1) := by decide +kernel
theorem dX10_element_83 : decode cX10_element 83 = .ok (.getfield 149, 3) := by decide +kernel
theorem dX10_element_86 : decode cX10_element 86 = .ok (.bipush 12, 2) := by decide +kernel
theorem dX10_element_88 : decode cX10_element 88 = .ok (.invokestatic 122, 3) := by decide +kernel
theorem dX10_element_91 : decode cX10_element 91 = .ok (.ifCond .eq 16, 3) := by decide +kernel
theorem dX10_element_94 : decode cX10_element 94 = .ok (.aload_n 1, 1) := by decide +kernel
theorem dX10_element_95 : decode cX10_element 95 = .ok (.iload_n 2, 1) := by decide +kernel
theorem dX10_element_96 : decode cX10_element 96 = .ok (.baload, 1) := by decide +kernel
theorem dX10_element_97 : decode cX10_element 97 = .ok (.iconst 2, 1) := by decide +kernel
theorem dX10_element_98 : decode cX10_element 98 = .ok (.if_icmp .ne 7, 3) := by decide +kernel
theorem dX10_element_101 : decode cX10_element 101 = .ok (.iconst 1, 1) := by decide +kernel
theorem dX10_element_102 : decode cX10_element 102 = .ok (.goto 4, 3) := by decide +kernel
theorem dX10_element_105 : decode cX10_element 105 = .ok (.iconst 0, 1) := by decide +kernel
theorem dX10_element_106 : decode cX10_element 106 = .ok (.ireturn, 1) := by decide +kernel
theorem dX10_element_107 : decode cX10_element 107 = .ok (.aload_n 3, 1) := by decide +kernel
theorem dX10_element_108 : decode cX10_element 108 = .ok (.getfield 149, 3) := by decide +kernel
theorem dX10_element_111 : decode cX10_element 111 = .ok (.iconst 0, 1) := by decide +kernel
theorem dX10_element_112 : decode cX10_element 112 = .ok (.iaload, 1) := by decide +kernel
theorem dX10_element_113 : decode cX10_element 113 = .ok (.iconst 1, 1) := by decide +kernel
theorem dX10_element_114 : decode cX10_element 114 = .ok (.iand, 1) := by decide +kernel
theorem dX10_element_115 : decode cX10_element 115 = .ok (.aload_n 1, 1) := by decide +kernel
theorem dX10_element_116 : decode cX10_element 116 = .ok (.iload_n 2, 1) := by decide +kernel
theorem dX10_element_117 : decode cX10_element 117 = .ok (.baload, 1) := by decide +kernel
theorem dX10_element_118 : decode cX10_element 118 = .ok (.iconst 2, 1) := by decide +kernel
theorem dX10_element_119 : decode cX10_element 119 = .ok (.isub, 1) := by decide +kernel
theorem dX10_element_120 : decode cX10_element 120 = .ok (.if_icmp .eq 10, 3) := by decide +kernel
theorem dX10_element_123 : decode cX10_element 123 = .ok (.aload_n 3, 1) := by decide +kernel
theorem dX10_element_124 : decode cX10_element 124 = .ok (.getfield 149, 3) := by decide +kernel
theorem dX10_element_127 : decode cX10_element 127 = .ok (.invokestatic 229, 3) := by decide +kernel
theorem dX10_element_130 : decode cX10_element 130 = .ok (.iconst 1, 1) := by decide +kernel
theorem dX10_element_131 : decode cX10_element 131 = .ok (.ireturn, 1) := by decide +kernel
abbrev cX10_proves : ByteArray := prog_15_method_59_code
def yX10_proves : MethodName := ⟨RX10, "proves", "(II[I)Z"⟩
theorem dX10_proves_0 : decode cX10_proves 0 = .ok (.aload_n 0, 1) := by decide +kernel
theorem dX10_proves_1 : decode cX10_proves 1 = .ok (.iload_n 2, 1) := by decide +kernel
theorem dX10_proves_2 : decode cX10_proves 2 = .ok (.aload_n 0, 1) := by decide +kernel
theorem dX10_proves_3 : decode cX10_proves 3 = .ok (.getfield 458, 3) := by decide +kernel
theorem dX10_proves_6 : decode cX10_proves 6 = .ok (.iload_n 1, 1) := by decide +kernel
theorem dX10_proves_7 : decode cX10_proves 7 = .ok (.aaload, 1) := by decide +kernel
theorem dX10_proves_8 : decode cX10_proves 8 = .ok (.invokevirtual 461, 3) := by decide +kernel
theorem dX10_proves_11 : decode cX10_proves 11 = .ok (.aload_n 0, 1) := by decide +kernel
theorem dX10_proves_12 : decode cX10_proves 12 = .ok (.aload_n 3, 1) := by decide +kernel
theorem dX10_proves_13 : decode cX10_proves 13 = .ok (.aload_n 0, 1) := by decide +kernel
theorem dX10_proves_14 : decode cX10_proves 14 = .ok (.getfield 465, 3) := by decide +kernel
theorem dX10_proves_17 : decode cX10_proves 17 = .ok (.aload_n 0, 1) := by decide +kernel
theorem dX10_proves_18 : decode cX10_proves 18 = .ok (.getfield 450, 3) := by decide +kernel
theorem dX10_proves_21 : decode cX10_proves 21 = .ok (.invokevirtual 446, 3) := by decide +kernel
theorem dX10_proves_24 : decode cX10_proves 24 = .ok (.aload_n 0, 1) := by decide +kernel
theorem dX10_proves_25 : decode cX10_proves 25 = .ok (.aload_n 3, 1) := by decide +kernel
theorem dX10_proves_26 : decode cX10_proves 26 = .ok (.aload_n 0, 1) := by decide +kernel
theorem dX10_proves_27 : decode cX10_proves 27 = .ok (.getfield 417, 3) := by decide +kernel
theorem dX10_proves_30 : decode cX10_proves 30 = .ok (.aload_n 0, 1) := by decide +kernel
theorem dX10_proves_31 : decode cX10_proves 31 = .ok (.getfield 453, 3) := by decide +kernel
theorem dX10_proves_34 : decode cX10_proves 34 = .ok (.invokevirtual 446, 3) := by decide +kernel
theorem dX10_proves_37 : decode cX10_proves 37 = .ok (.aload_n 0, 1) := by decide +kernel
theorem dX10_proves_38 : decode cX10_proves 38 = .ok (.aload_n 0, 1) := by decide +kernel
theorem dX10_proves_39 : decode cX10_proves 39 = .ok (.getfield 458, 3) := by decide +kernel
theorem dX10_proves_42 : decode cX10_proves 42 = .ok (.iload_n 1, 1) := by decide +kernel
theorem dX10_proves_43 : decode cX10_proves 43 = .ok (.aaload, 1) := by decide +kernel
theorem dX10_proves_44 : decode cX10_proves 44 = .ok (.aload_n 0, 1) := by decide +kernel
theorem dX10_proves_45 : decode cX10_proves 45 = .ok (.getfield 468, 3) := by decide +kernel
theorem dX10_proves_48 : decode cX10_proves 48 = .ok (.invokevirtual 471, 3) := by decide +kernel
theorem dX10_proves_51 : decode cX10_proves 51 = .ok (.ifCond .ne 5, 3) := by decide +kernel
theorem dX10_proves_54 : decode cX10_proves 54 = .ok (.iconst 0, 1) := by decide +kernel
theorem dX10_proves_55 : decode cX10_proves 55 = .ok (.ireturn, 1) := by decide +kernel
theorem dX10_proves_56 : decode cX10_proves 56 = .ok (.aload_n 0, 1) := by decide +kernel
theorem dX10_proves_57 : decode cX10_proves 57 = .ok (.aload_n 0, 1) := by decide +kernel
theorem dX10_proves_58 : decode cX10_proves 58 = .ok (.getfield 360, 3) := by decide +kernel
theorem dX10_proves_61 : decode cX10_proves 61 = .ok (.aload_n 0, 1) := by decide +kernel
theorem dX10_proves_62 : decode cX10_proves 62 = .ok (.getfield 468, 3) := by decide +kernel
theorem dX10_proves_65 : decode cX10_proves 65 = .ok (.aload_n 0, 1) := by decide +kernel
theorem dX10_proves_66 : decode cX10_proves 66 = .ok (.getfield 475, 3) := by decide +kernel
theorem dX10_proves_69 : decode cX10_proves 69 = .ok (.iload_n 1, 1) := by decide +kernel
theorem dX10_proves_70 : decode cX10_proves 70 = .ok (.aaload, 1) := by decide +kernel
theorem dX10_proves_71 : decode cX10_proves 71 = .ok (.aload_n 0, 1) := by decide +kernel
theorem dX10_proves_72 : decode cX10_proves 72 = .ok (.getfield 437, 3) := by decide +kernel
theorem dX10_proves_75 : decode cX10_proves 75 = .ok (.invokevirtual 102, 3) := by decide +kernel
theorem dX10_proves_78 : decode cX10_proves 78 = .ok (.aload_n 0, 1) := by decide +kernel
theorem dX10_proves_79 : decode cX10_proves 79 = .ok (.getfield 360, 3) := by decide +kernel
theorem dX10_proves_82 : decode cX10_proves 82 = .ok (.aload_n 3, 1) := by decide +kernel
theorem dX10_proves_83 : decode cX10_proves 83 = .ok (.aload_n 0, 1) := by decide +kernel
theorem dX10_proves_84 : decode cX10_proves 84 = .ok (.getfield 437, 3) := by decide +kernel
theorem dX10_proves_87 : decode cX10_proves 87 = .ok (.aload_n 0, 1) := by decide +kernel
theorem dX10_proves_88 : decode cX10_proves 88 = .ok (.getfield 479, 3) := by decide +kernel
theorem dX10_proves_91 : decode cX10_proves 91 = .ok (.invokestatic 130, 3) := by decide +kernel
theorem dX10_proves_94 : decode cX10_proves 94 = .ok (.iconst 1, 1) := by decide +kernel
theorem dX10_proves_95 : decode cX10_proves 95 = .ok (.ireturn, 1) := by decide +kernel
abbrev cX10_composes : ByteArray := prog_15_method_57_code
def yX10_composes : MethodName := ⟨RX10, "composes", "(ILVeilMintModel$Spot;)V"⟩
theorem dX10_composes_0 : decode cX10_composes 0 = .ok (.aload_n 0, 1) := by decide +kernel
theorem dX10_composes_1 : decode cX10_composes 1 = .ok (.ldc_w 412, 3) := by decide +kernel
theorem dX10_composes_4 : decode cX10_composes 4 = .ok (.invokevirtual 354, 3) := by decide +kernel
theorem dX10_composes_7 : decode cX10_composes 7 = .ok (.aload_n 0, 1) := by decide +kernel
theorem dX10_composes_8 : decode cX10_composes 8 = .ok (.bipush 49, 2) := by decide +kernel
theorem dX10_composes_10 : decode cX10_composes 10 = .ok (.invokevirtual 334, 3) := by decide +kernel
theorem dX10_composes_13 : decode cX10_composes 13 = .ok (.aload_n 2, 1) := by decide +kernel
theorem dX10_composes_14 : decode cX10_composes 14 = .ok (.aload_n 0, 1) := by decide +kernel
theorem dX10_composes_15 : decode cX10_composes 15 = .ok (.getfield 402, 3) := by decide +kernel
theorem dX10_composes_18 : decode cX10_composes 18 = .ok (.iconst 0, 1) := by decide +kernel
theorem dX10_composes_19 : decode cX10_composes 19 = .ok (.invokestatic 405, 3) := by decide +kernel
theorem dX10_composes_22 : decode cX10_composes 22 = .ok (.aload_n 0, 1) := by decide +kernel
theorem dX10_composes_23 : decode cX10_composes 23 = .ok (.aload_n 0, 1) := by decide +kernel
theorem dX10_composes_24 : decode cX10_composes 24 = .ok (.getfield 402, 3) := by decide +kernel
theorem dX10_composes_27 : decode cX10_composes 27 = .ok (.iconst 0, 1) := by decide +kernel
theorem dX10_composes_28 : decode cX10_composes 28 = .ok (.bipush 49, 2) := by decide +kernel
theorem dX10_composes_30 : decode cX10_composes 30 = .ok (.invokevirtual 325, 3) := by decide +kernel
theorem dX10_composes_33 : decode cX10_composes 33 = .ok (.aload_n 0, 1) := by decide +kernel
theorem dX10_composes_34 : decode cX10_composes 34 = .ok (.aload_n 0, 1) := by decide +kernel
theorem dX10_composes_35 : decode cX10_composes 35 = .ok (.getfield 322, 3) := by decide +kernel
theorem dX10_composes_38 : decode cX10_composes 38 = .ok (.invokevirtual 334, 3) := by decide +kernel
theorem dX10_composes_41 : decode cX10_composes 41 = .ok (.aload_n 0, 1) := by decide +kernel
theorem dX10_composes_42 : decode cX10_composes 42 = .ok (.aload_n 0, 1) := by decide +kernel
theorem dX10_composes_43 : decode cX10_composes 43 = .ok (.getfield 319, 3) := by decide +kernel
theorem dX10_composes_46 : decode cX10_composes 46 = .ok (.iconst 0, 1) := by decide +kernel
theorem dX10_composes_47 : decode cX10_composes 47 = .ok (.aload_n 0, 1) := by decide +kernel
theorem dX10_composes_48 : decode cX10_composes 48 = .ok (.getfield 322, 3) := by decide +kernel
theorem dX10_composes_51 : decode cX10_composes 51 = .ok (.invokevirtual 325, 3) := by decide +kernel
theorem dX10_composes_54 : decode cX10_composes 54 = .ok (.aload_n 0, 1) := by decide +kernel
theorem dX10_composes_55 : decode cX10_composes 55 = .ok (.invokevirtual 340, 3) := by decide +kernel
theorem dX10_composes_58 : decode cX10_composes 58 = .ok (.iconst 0, 1) := by decide +kernel
theorem dX10_composes_59 : decode cX10_composes 59 = .ok (.istore_n 3, 1) := by decide +kernel
theorem dX10_composes_60 : decode cX10_composes 60 = .ok (.iload_n 3, 1) := by decide +kernel
theorem dX10_composes_61 : decode cX10_composes 61 = .ok (.bipush 48, 2) := by decide +kernel
theorem dX10_composes_63 : decode cX10_composes 63 = .ok (.if_icmp .ge 21, 3) := by decide +kernel
theorem dX10_composes_66 : decode cX10_composes 66 = .ok (.aload_n 0, 1) := by decide +kernel
theorem dX10_composes_67 : decode cX10_composes 67 = .ok (.getfield 414, 3) := by decide +kernel
theorem dX10_composes_70 : decode cX10_composes 70 = .ok (.iload_n 3, 1) := by decide +kernel
theorem dX10_composes_71 : decode cX10_composes 71 = .ok (.aload_n 0, 1) := by decide +kernel
theorem dX10_composes_72 : decode cX10_composes 72 = .ok (.getfield 283, 3) := by decide +kernel
theorem dX10_composes_75 : decode cX10_composes 75 = .ok (.iload_n 3, 1) := by decide +kernel
theorem dX10_composes_76 : decode cX10_composes 76 = .ok (.baload, 1) := by decide +kernel
theorem dX10_composes_77 : decode cX10_composes 77 = .ok (.bastore, 1) := by decide +kernel
theorem dX10_composes_78 : decode cX10_composes 78 = .ok (.iinc 3 1, 3) := by decide +kernel
theorem dX10_composes_81 : decode cX10_composes 81 = .ok (.goto (-21), 3) := by decide +kernel
theorem dX10_composes_84 : decode cX10_composes 84 = .ok (.aload_n 0, 1) := by decide +kernel
theorem dX10_composes_85 : decode cX10_composes 85 = .ok (.getfield 417, 3) := by decide +kernel
theorem dX10_composes_88 : decode cX10_composes 88 = .ok (.iconst 1, 1) := by decide +kernel
theorem dX10_composes_89 : decode cX10_composes 89 = .ok (.putfield 136, 3) := by decide +kernel
theorem dX10_composes_92 : decode cX10_composes 92 = .ok (.aload_n 0, 1) := by decide +kernel
theorem dX10_composes_93 : decode cX10_composes 93 = .ok (.getfield 419, 3) := by decide +kernel
theorem dX10_composes_96 : decode cX10_composes 96 = .ok (.iconst 1, 1) := by decide +kernel
theorem dX10_composes_97 : decode cX10_composes 97 = .ok (.putfield 136, 3) := by decide +kernel
theorem dX10_composes_100 : decode cX10_composes 100 = .ok (.iconst 0, 1) := by decide +kernel
theorem dX10_composes_101 : decode cX10_composes 101 = .ok (.istore_n 3, 1) := by decide +kernel
theorem dX10_composes_102 : decode cX10_composes 102 = .ok (.iload_n 3, 1) := by decide +kernel
theorem dX10_composes_103 : decode cX10_composes 103 = .ok (.iload_n 1, 1) := by decide +kernel
theorem dX10_composes_104 : decode cX10_composes 104 = .ok (.if_icmp .ge 161, 3) := by decide +kernel
theorem dX10_composes_107 : decode cX10_composes 107 = .ok (.aload_n 0, 1) := by decide +kernel
theorem dX10_composes_108 : decode cX10_composes 108 = .ok (.iconst 0, 1) := by decide +kernel
theorem dX10_composes_109 : decode cX10_composes 109 = .ok (.putfield 331, 3) := by decide +kernel
theorem dX10_composes_112 : decode cX10_composes 112 = .ok (.aload_n 0, 1) := by decide +kernel
theorem dX10_composes_113 : decode cX10_composes 113 = .ok (.aload_n 0, 1) := by decide +kernel
theorem dX10_composes_114 : decode cX10_composes 114 = .ok (.getfield 414, 3) := by decide +kernel
theorem dX10_composes_117 : decode cX10_composes 117 = .ok (.iconst 0, 1) := by decide +kernel
theorem dX10_composes_118 : decode cX10_composes 118 = .ok (.bipush 48, 2) := by decide +kernel
theorem dX10_composes_120 : decode cX10_composes 120 = .ok (.invokevirtual 409, 3) := by decide +kernel
theorem dX10_composes_123 : decode cX10_composes 123 = .ok (.aload_n 0, 1) := by decide +kernel
theorem dX10_composes_124 : decode cX10_composes 124 = .ok (.getfield 328, 3) := by decide +kernel
theorem dX10_composes_127 : decode cX10_composes 127 = .ok (.aload_n 0, 1) := by decide +kernel
theorem dX10_composes_128 : decode cX10_composes 128 = .ok (.getfield 331, 3) := by decide +kernel
theorem dX10_composes_131 : decode cX10_composes 131 = .ok (.iconst 0, 1) := by decide +kernel
theorem dX10_composes_132 : decode cX10_composes 132 = .ok (.bastore, 1) := by decide +kernel
theorem dX10_composes_133 : decode cX10_composes 133 = .ok (.aload_n 0, 1) := by decide +kernel
theorem dX10_composes_134 : decode cX10_composes 134 = .ok (.getfield 328, 3) := by decide +kernel
theorem dX10_composes_137 : decode cX10_composes 137 = .ok (.aload_n 0, 1) := by decide +kernel
theorem dX10_composes_138 : decode cX10_composes 138 = .ok (.getfield 331, 3) := by decide +kernel
theorem dX10_composes_141 : decode cX10_composes 141 = .ok (.iconst 1, 1) := by decide +kernel
theorem dX10_composes_142 : decode cX10_composes 142 = .ok (.iadd, 1) := by decide +kernel
theorem dX10_composes_143 : decode cX10_composes 143 = .ok (.iload_n 3, 1) := by decide +kernel
theorem dX10_composes_144 : decode cX10_composes 144 = .ok (.i2b, 1) := by decide +kernel
theorem dX10_composes_145 : decode cX10_composes 145 = .ok (.bastore, 1) := by decide +kernel
theorem dX10_composes_146 : decode cX10_composes 146 = .ok (.aload_n 0, 1) := by decide +kernel
theorem dX10_composes_147 : decode cX10_composes 147 = .ok (.dup, 1) := by decide +kernel
theorem dX10_composes_148 : decode cX10_composes 148 = .ok (.getfield 331, 3) := by decide +kernel
theorem dX10_composes_151 : decode cX10_composes 151 = .ok (.iconst 2, 1) := by decide +kernel
theorem dX10_composes_152 : decode cX10_composes 152 = .ok (.iadd, 1) := by decide +kernel
theorem dX10_composes_153 : decode cX10_composes 153 = .ok (.putfield 331, 3) := by decide +kernel
theorem dX10_composes_156 : decode cX10_composes 156 = .ok (.aload_n 0, 1) := by decide +kernel
theorem dX10_composes_157 : decode cX10_composes 157 = .ok (.aload_n 0, 1) := by decide +kernel
theorem dX10_composes_158 : decode cX10_composes 158 = .ok (.getfield 422, 3) := by decide +kernel
theorem dX10_composes_161 : decode cX10_composes 161 = .ok (.iload_n 3, 1) := by decide +kernel
theorem dX10_composes_162 : decode cX10_composes 162 = .ok (.aaload, 1) := by decide +kernel
theorem dX10_composes_163 : decode cX10_composes 163 = .ok (.invokevirtual 426, 3) := by decide +kernel
theorem dX10_composes_166 : decode cX10_composes 166 = .ok (.aload_n 0, 1) := by decide +kernel
theorem dX10_composes_167 : decode cX10_composes 167 = .ok (.aload_n 0, 1) := by decide +kernel
theorem dX10_composes_168 : decode cX10_composes 168 = .ok (.getfield 429, 3) := by decide +kernel
theorem dX10_composes_171 : decode cX10_composes 171 = .ok (.iload_n 3, 1) := by decide +kernel
theorem dX10_composes_172 : decode cX10_composes 172 = .ok (.aaload, 1) := by decide +kernel
theorem dX10_composes_173 : decode cX10_composes 173 = .ok (.invokevirtual 426, 3) := by decide +kernel
theorem dX10_composes_176 : decode cX10_composes 176 = .ok (.aload_n 0, 1) := by decide +kernel
theorem dX10_composes_177 : decode cX10_composes 177 = .ok (.ldc_w 432, 3) := by decide +kernel
theorem dX10_composes_180 : decode cX10_composes 180 = .ok (.invokevirtual 434, 3) := by decide +kernel
theorem dX10_composes_183 : decode cX10_composes 183 = .ok (.aload_n 0, 1) := by decide +kernel
theorem dX10_composes_184 : decode cX10_composes 184 = .ok (.aload_n 0, 1) := by decide +kernel
theorem dX10_composes_185 : decode cX10_composes 185 = .ok (.getfield 437, 3) := by decide +kernel
theorem dX10_composes_188 : decode cX10_composes 188 = .ok (.invokevirtual 440, 3) := by decide +kernel
theorem dX10_composes_191 : decode cX10_composes 191 = .ok (.aload_n 0, 1) := by decide +kernel
theorem dX10_composes_192 : decode cX10_composes 192 = .ok (.aload_n 0, 1) := by decide +kernel
theorem dX10_composes_193 : decode cX10_composes 193 = .ok (.getfield 437, 3) := by decide +kernel
theorem dX10_composes_196 : decode cX10_composes 196 = .ok (.aload_n 0, 1) := by decide +kernel
theorem dX10_composes_197 : decode cX10_composes 197 = .ok (.getfield 422, 3) := by decide +kernel
theorem dX10_composes_200 : decode cX10_composes 200 = .ok (.iload_n 3, 1) := by decide +kernel
theorem dX10_composes_201 : decode cX10_composes 201 = .ok (.aaload, 1) := by decide +kernel
theorem dX10_composes_202 : decode cX10_composes 202 = .ok (.aload_n 0, 1) := by decide +kernel
theorem dX10_composes_203 : decode cX10_composes 203 = .ok (.getfield 443, 3) := by decide +kernel
theorem dX10_composes_206 : decode cX10_composes 206 = .ok (.invokevirtual 446, 3) := by decide +kernel
theorem dX10_composes_209 : decode cX10_composes 209 = .ok (.aload_n 0, 1) := by decide +kernel
theorem dX10_composes_210 : decode cX10_composes 210 = .ok (.aload_n 0, 1) := by decide +kernel
theorem dX10_composes_211 : decode cX10_composes 211 = .ok (.getfield 417, 3) := by decide +kernel
theorem dX10_composes_214 : decode cX10_composes 214 = .ok (.aload_n 0, 1) := by decide +kernel
theorem dX10_composes_215 : decode cX10_composes 215 = .ok (.getfield 443, 3) := by decide +kernel
theorem dX10_composes_218 : decode cX10_composes 218 = .ok (.aload_n 0, 1) := by decide +kernel
theorem dX10_composes_219 : decode cX10_composes 219 = .ok (.getfield 417, 3) := by decide +kernel
theorem dX10_composes_222 : decode cX10_composes 222 = .ok (.invokevirtual 398, 3) := by decide +kernel
theorem dX10_composes_225 : decode cX10_composes 225 = .ok (.aload_n 0, 1) := by decide +kernel
theorem dX10_composes_226 : decode cX10_composes 226 = .ok (.aload_n 0, 1) := by decide +kernel
theorem dX10_composes_227 : decode cX10_composes 227 = .ok (.getfield 437, 3) := by decide +kernel
theorem dX10_composes_230 : decode cX10_composes 230 = .ok (.aload_n 0, 1) := by decide +kernel
theorem dX10_composes_231 : decode cX10_composes 231 = .ok (.getfield 429, 3) := by decide +kernel
theorem dX10_composes_234 : decode cX10_composes 234 = .ok (.iload_n 3, 1) := by decide +kernel
theorem dX10_composes_235 : decode cX10_composes 235 = .ok (.aaload, 1) := by decide +kernel
theorem dX10_composes_236 : decode cX10_composes 236 = .ok (.aload_n 0, 1) := by decide +kernel
theorem dX10_composes_237 : decode cX10_composes 237 = .ok (.getfield 443, 3) := by decide +kernel
theorem dX10_composes_240 : decode cX10_composes 240 = .ok (.invokevirtual 446, 3) := by decide +kernel
theorem dX10_composes_243 : decode cX10_composes 243 = .ok (.aload_n 0, 1) := by decide +kernel
theorem dX10_composes_244 : decode cX10_composes 244 = .ok (.aload_n 0, 1) := by decide +kernel
theorem dX10_composes_245 : decode cX10_composes 245 = .ok (.getfield 419, 3) := by decide +kernel
theorem dX10_composes_248 : decode cX10_composes 248 = .ok (.aload_n 0, 1) := by decide +kernel
theorem dX10_composes_249 : decode cX10_composes 249 = .ok (.getfield 443, 3) := by decide +kernel
theorem dX10_composes_252 : decode cX10_composes 252 = .ok (.aload_n 0, 1) := by decide +kernel
theorem dX10_composes_253 : decode cX10_composes 253 = .ok (.getfield 419, 3) := by decide +kernel
theorem dX10_composes_256 : decode cX10_composes 256 = .ok (.invokevirtual 398, 3) := by decide +kernel
theorem dX10_composes_259 : decode cX10_composes 259 = .ok (.iinc 3 1, 3) := by decide +kernel
theorem dX10_composes_262 : decode cX10_composes 262 = .ok (.goto (-160), 3) := by decide +kernel
theorem dX10_composes_265 : decode cX10_composes 265 = .ok (.return_, 1) := by decide +kernel
abbrev cX10_lays : ByteArray := prog_15_method_54_code
def yX10_lays : MethodName := ⟨RX10, "lays", "([BII)V"⟩
theorem dX10_lays_0 : decode cX10_lays 0 = .ok (.aload_n 0, 1) := by decide +kernel
theorem dX10_lays_1 : decode cX10_lays 1 = .ok (.getfield 328, 3) := by decide +kernel
theorem dX10_lays_4 : decode cX10_lays 4 = .ok (.aload_n 0, 1) := by decide +kernel
theorem dX10_lays_5 : decode cX10_lays 5 = .ok (.getfield 331, 3) := by decide +kernel
theorem dX10_lays_8 : decode cX10_lays 8 = .ok (.iload_n 3, 1) := by decide +kernel
theorem dX10_lays_9 : decode cX10_lays 9 = .ok (.bipush 8, 2) := by decide +kernel
theorem dX10_lays_11 : decode cX10_lays 11 = .ok (.ishr, 1) := by decide +kernel
theorem dX10_lays_12 : decode cX10_lays 12 = .ok (.i2b, 1) := by decide +kernel
theorem dX10_lays_13 : decode cX10_lays 13 = .ok (.bastore, 1) := by decide +kernel
theorem dX10_lays_14 : decode cX10_lays 14 = .ok (.aload_n 0, 1) := by decide +kernel
theorem dX10_lays_15 : decode cX10_lays 15 = .ok (.getfield 328, 3) := by decide +kernel
theorem dX10_lays_18 : decode cX10_lays 18 = .ok (.aload_n 0, 1) := by decide +kernel
theorem dX10_lays_19 : decode cX10_lays 19 = .ok (.getfield 331, 3) := by decide +kernel
theorem dX10_lays_22 : decode cX10_lays 22 = .ok (.iconst 1, 1) := by decide +kernel
theorem dX10_lays_23 : decode cX10_lays 23 = .ok (.iadd, 1) := by decide +kernel
theorem dX10_lays_24 : decode cX10_lays 24 = .ok (.iload_n 3, 1) := by decide +kernel
theorem dX10_lays_25 : decode cX10_lays 25 = .ok (.i2b, 1) := by decide +kernel
theorem dX10_lays_26 : decode cX10_lays 26 = .ok (.bastore, 1) := by decide +kernel
theorem dX10_lays_27 : decode cX10_lays 27 = .ok (.aload_n 0, 1) := by decide +kernel
theorem dX10_lays_28 : decode cX10_lays 28 = .ok (.dup, 1) := by decide +kernel
theorem dX10_lays_29 : decode cX10_lays 29 = .ok (.getfield 331, 3) := by decide +kernel
theorem dX10_lays_32 : decode cX10_lays 32 = .ok (.iconst 2, 1) := by decide +kernel
theorem dX10_lays_33 : decode cX10_lays 33 = .ok (.iadd, 1) := by decide +kernel
theorem dX10_lays_34 : decode cX10_lays 34 = .ok (.putfield 331, 3) := by decide +kernel
theorem dX10_lays_37 : decode cX10_lays 37 = .ok (.iconst 0, 1) := by decide +kernel
theorem dX10_lays_38 : decode cX10_lays 38 = .ok (.istore 4, 2) := by decide +kernel
theorem dX10_lays_40 : decode cX10_lays 40 = .ok (.iload 4, 2) := by decide +kernel
theorem dX10_lays_42 : decode cX10_lays 42 = .ok (.iload_n 3, 1) := by decide +kernel
theorem dX10_lays_43 : decode cX10_lays 43 = .ok (.if_icmp .ge 27, 3) := by decide +kernel
theorem dX10_lays_46 : decode cX10_lays 46 = .ok (.aload_n 0, 1) := by decide +kernel
theorem dX10_lays_47 : decode cX10_lays 47 = .ok (.getfield 328, 3) := by decide +kernel
theorem dX10_lays_50 : decode cX10_lays 50 = .ok (.aload_n 0, 1) := by decide +kernel
theorem dX10_lays_51 : decode cX10_lays 51 = .ok (.getfield 331, 3) := by decide +kernel
theorem dX10_lays_54 : decode cX10_lays 54 = .ok (.iload 4, 2) := by decide +kernel
theorem dX10_lays_56 : decode cX10_lays 56 = .ok (.iadd, 1) := by decide +kernel
theorem dX10_lays_57 : decode cX10_lays 57 = .ok (.aload_n 1, 1) := by decide +kernel
theorem dX10_lays_58 : decode cX10_lays 58 = .ok (.iload_n 2, 1) := by decide +kernel
theorem dX10_lays_59 : decode cX10_lays 59 = .ok (.iload 4, 2) := by decide +kernel
theorem dX10_lays_61 : decode cX10_lays 61 = .ok (.iadd, 1) := by decide +kernel
theorem dX10_lays_62 : decode cX10_lays 62 = .ok (.baload, 1) := by decide +kernel
theorem dX10_lays_63 : decode cX10_lays 63 = .ok (.bastore, 1) := by decide +kernel
theorem dX10_lays_64 : decode cX10_lays 64 = .ok (.iinc 4 1, 3) := by decide +kernel
theorem dX10_lays_67 : decode cX10_lays 67 = .ok (.goto (-27), 3) := by decide +kernel
theorem dX10_lays_70 : decode cX10_lays 70 = .ok (.aload_n 0, 1) := by decide +kernel
theorem dX10_lays_71 : decode cX10_lays 71 = .ok (.dup, 1) := by decide +kernel
theorem dX10_lays_72 : decode cX10_lays 72 = .ok (.getfield 331, 3) := by decide +kernel
theorem dX10_lays_75 : decode cX10_lays 75 = .ok (.iload_n 3, 1) := by decide +kernel
theorem dX10_lays_76 : decode cX10_lays 76 = .ok (.iadd, 1) := by decide +kernel
theorem dX10_lays_77 : decode cX10_lays 77 = .ok (.putfield 331, 3) := by decide +kernel
theorem dX10_lays_80 : decode cX10_lays 80 = .ok (.return_, 1) := by decide +kernel
abbrev cX10_laysSpot : ByteArray := prog_15_method_56_code
def yX10_laysSpot : MethodName := ⟨RX10, "laysSpot", "(LVeilMintModel$Spot;)V"⟩
theorem dX10_laysSpot_0 : decode cX10_laysSpot 0 = .ok (.aload_n 1, 1) := by decide +kernel
theorem dX10_laysSpot_1 : decode cX10_laysSpot 1 = .ok (.aload_n 0, 1) := by decide +kernel
theorem dX10_laysSpot_2 : decode cX10_laysSpot 2 = .ok (.getfield 402, 3) := by decide +kernel
theorem dX10_laysSpot_5 : decode cX10_laysSpot 5 = .ok (.iconst 0, 1) := by decide +kernel
theorem dX10_laysSpot_6 : decode cX10_laysSpot 6 = .ok (.invokestatic 405, 3) := by decide +kernel
theorem dX10_laysSpot_9 : decode cX10_laysSpot 9 = .ok (.aload_n 0, 1) := by decide +kernel
theorem dX10_laysSpot_10 : decode cX10_laysSpot 10 = .ok (.aload_n 0, 1) := by decide +kernel
theorem dX10_laysSpot_11 : decode cX10_laysSpot 11 = .ok (.getfield 402, 3) := by decide +kernel
theorem dX10_laysSpot_14 : decode cX10_laysSpot 14 = .ok (.iconst 0, 1) := by decide +kernel
theorem dX10_laysSpot_15 : decode cX10_laysSpot 15 = .ok (.bipush 49, 2) := by decide +kernel
theorem dX10_laysSpot_17 : decode cX10_laysSpot 17 = .ok (.invokevirtual 409, 3) := by decide +kernel
theorem dX10_laysSpot_20 : decode cX10_laysSpot 20 = .ok (.return_, 1) := by decide +kernel
abbrev cX10_laysWord : ByteArray := prog_15_method_55_code
def yX10_laysWord : MethodName := ⟨RX10, "laysWord", "(Ljava/lang/String;)V"⟩
theorem dX10_laysWord_0 : decode cX10_laysWord 0 = .ok (.iconst 0, 1) := by decide +kernel
theorem dX10_laysWord_1 : decode cX10_laysWord 1 = .ok (.istore_n 2, 1) := by decide +kernel
theorem dX10_laysWord_2 : decode cX10_laysWord 2 = .ok (.iload_n 2, 1) := by decide +kernel
theorem dX10_laysWord_3 : decode cX10_laysWord 3 = .ok (.aload_n 1, 1) := by decide +kernel
theorem dX10_laysWord_4 : decode cX10_laysWord 4 = .ok (.invokevirtual 250, 3) := by decide +kernel
theorem dX10_laysWord_7 : decode cX10_laysWord 7 = .ok (.if_icmp .ge 26, 3) := by decide +kernel
theorem dX10_laysWord_10 : decode cX10_laysWord 10 = .ok (.aload_n 0, 1) := by decide +kernel
theorem dX10_laysWord_11 : decode cX10_laysWord 11 = .ok (.getfield 328, 3) := by decide +kernel
theorem dX10_laysWord_14 : decode cX10_laysWord 14 = .ok (.aload_n 0, 1) := by decide +kernel
theorem dX10_laysWord_15 : decode cX10_laysWord 15 = .ok (.getfield 331, 3) := by decide +kernel
theorem dX10_laysWord_18 : decode cX10_laysWord 18 = .ok (.iload_n 2, 1) := by decide +kernel
theorem dX10_laysWord_19 : decode cX10_laysWord 19 = .ok (.iadd, 1) := by decide +kernel
theorem dX10_laysWord_20 : decode cX10_laysWord 20 = .ok (.aload_n 1, 1) := by decide +kernel
theorem dX10_laysWord_21 : decode cX10_laysWord 21 = .ok (.iload_n 2, 1) := by decide +kernel
theorem dX10_laysWord_22 : decode cX10_laysWord 22 = .ok (.invokevirtual 256, 3) := by decide +kernel
theorem dX10_laysWord_25 : decode cX10_laysWord 25 = .ok (.i2b, 1) := by decide +kernel
theorem dX10_laysWord_26 : decode cX10_laysWord 26 = .ok (.bastore, 1) := by decide +kernel
theorem dX10_laysWord_27 : decode cX10_laysWord 27 = .ok (.iinc 2 1, 3) := by decide +kernel
theorem dX10_laysWord_30 : decode cX10_laysWord 30 = .ok (.goto (-28), 3) := by decide +kernel
theorem dX10_laysWord_33 : decode cX10_laysWord 33 = .ok (.aload_n 0, 1) := by decide +kernel
theorem dX10_laysWord_34 : decode cX10_laysWord 34 = .ok (.dup, 1) := by decide +kernel
theorem dX10_laysWord_35 : decode cX10_laysWord 35 = .ok (.getfield 331, 3) := by decide +kernel
theorem dX10_laysWord_38 : decode cX10_laysWord 38 = .ok (.aload_n 1, 1) := by decide +kernel
theorem dX10_laysWord_39 : decode cX10_laysWord 39 = .ok (.invokevirtual 250, 3) := by decide +kernel
theorem dX10_laysWord_42 : decode cX10_laysWord 42 = .ok (.iadd, 1) := by decide +kernel
theorem dX10_laysWord_43 : decode cX10_laysWord 43 = .ok (.putfield 331, 3) := by decide +kernel
theorem dX10_laysWord_46 : decode cX10_laysWord 46 = .ok (.return_, 1) := by decide +kernel
abbrev cX10_toScalar : ByteArray := prog_15_method_51_code
def yX10_toScalar : MethodName := ⟨RX10, "toScalar", "([I)V"⟩
theorem dX10_toScalar_0 : decode cX10_toScalar 0 = .ok (.aload_n 0, 1) := by decide +kernel
theorem dX10_toScalar_1 : decode cX10_toScalar 1 = .ok (.ldc_w 352, 3) := by decide +kernel
theorem dX10_toScalar_4 : decode cX10_toScalar 4 = .ok (.invokevirtual 354, 3) := by decide +kernel
theorem dX10_toScalar_7 : decode cX10_toScalar 7 = .ok (.aload_n 0, 1) := by decide +kernel
theorem dX10_toScalar_8 : decode cX10_toScalar 8 = .ok (.bipush 72, 2) := by decide +kernel
theorem dX10_toScalar_10 : decode cX10_toScalar 10 = .ok (.invokevirtual 357, 3) := by decide +kernel
theorem dX10_toScalar_13 : decode cX10_toScalar 13 = .ok (.aload_n 0, 1) := by decide +kernel
theorem dX10_toScalar_14 : decode cX10_toScalar 14 = .ok (.aload_n 0, 1) := by decide +kernel
theorem dX10_toScalar_15 : decode cX10_toScalar 15 = .ok (.getfield 360, 3) := by decide +kernel
theorem dX10_toScalar_18 : decode cX10_toScalar 18 = .ok (.iconst 0, 1) := by decide +kernel
theorem dX10_toScalar_19 : decode cX10_toScalar 19 = .ok (.aload_n 1, 1) := by decide +kernel
theorem dX10_toScalar_20 : decode cX10_toScalar 20 = .ok (.invokevirtual 363, 3) := by decide +kernel
theorem dX10_toScalar_23 : decode cX10_toScalar 23 = .ok (.return_, 1) := by decide +kernel
abbrev cX10_challenges : ByteArray := prog_15_method_58_code
def yX10_challenges : MethodName := ⟨RX10, "challenges", "(LVeilMintModel$Spot;[I)Z"⟩
theorem dX10_challenges_0 : decode cX10_challenges 0 = .ok (.aload_n 0, 1) := by decide +kernel
theorem dX10_challenges_1 : decode cX10_challenges 1 = .ok (.getfield 417, 3) := by decide +kernel
theorem dX10_challenges_4 : decode cX10_challenges 4 = .ok (.getfield 136, 3) := by decide +kernel
theorem dX10_challenges_7 : decode cX10_challenges 7 = .ok (.ifCond .ne 33, 3) := by decide +kernel
theorem dX10_challenges_10 : decode cX10_challenges 10 = .ok (.aload_n 0, 1) := by decide +kernel
theorem dX10_challenges_11 : decode cX10_challenges 11 = .ok (.getfield 419, 3) := by decide +kernel
theorem dX10_challenges_14 : decode cX10_challenges 14 = .ok (.getfield 136, 3) := by decide +kernel
theorem dX10_challenges_17 : decode cX10_challenges 17 = .ok (.ifCond .ne 23, 3) := by decide +kernel
theorem dX10_challenges_20 : decode cX10_challenges 20 = .ok (.aload_n 0, 1) := by decide +kernel
theorem dX10_challenges_21 : decode cX10_challenges 21 = .ok (.getfield 450, 3) := by decide +kernel
theorem dX10_challenges_24 : decode cX10_challenges 24 = .ok (.getfield 136, 3) := by decide +kernel
theorem dX10_challenges_27 : decode cX10_challenges 27 = .ok (.ifCond .ne 13, 3) := by decide +kernel
theorem dX10_challenges_30 : decode cX10_challenges 30 = .ok (.aload_n 0, 1) := by decide +kernel
theorem dX10_challenges_31 : decode cX10_challenges 31 = .ok (.getfield 453, 3) := by decide +kernel
theorem dX10_challenges_34 : decode cX10_challenges 34 = .ok (.getfield 136, 3) := by decide +kernel
theorem dX10_challenges_37 : decode cX10_challenges 37 = .ok (.ifCond .eq 5, 3) := by decide +kernel
theorem dX10_challenges_40 : decode cX10_challenges 40 = .ok (.iconst 0, 1) := by decide +kernel
theorem dX10_challenges_41 : decode cX10_challenges 41 = .ok (.ireturn, 1) := by decide +kernel
theorem dX10_challenges_42 : decode cX10_challenges 42 = .ok (.aload_n 0, 1) := by decide +kernel
theorem dX10_challenges_43 : decode cX10_challenges 43 = .ok (.iconst 0, 1) := by decide +kernel
theorem dX10_challenges_44 : decode cX10_challenges 44 = .ok (.putfield 331, 3) := by decide +kernel
theorem dX10_challenges_47 : decode cX10_challenges 47 = .ok (.aload_n 0, 1) := by decide +kernel
theorem dX10_challenges_48 : decode cX10_challenges 48 = .ok (.aload_n 1, 1) := by decide +kernel
theorem dX10_challenges_49 : decode cX10_challenges 49 = .ok (.invokevirtual 426, 3) := by decide +kernel
theorem dX10_challenges_52 : decode cX10_challenges 52 = .ok (.aload_n 0, 1) := by decide +kernel
theorem dX10_challenges_53 : decode cX10_challenges 53 = .ok (.aload_n 0, 1) := by decide +kernel
theorem dX10_challenges_54 : decode cX10_challenges 54 = .ok (.getfield 417, 3) := by decide +kernel
theorem dX10_challenges_57 : decode cX10_challenges 57 = .ok (.invokevirtual 426, 3) := by decide +kernel
theorem dX10_challenges_60 : decode cX10_challenges 60 = .ok (.aload_n 0, 1) := by decide +kernel
theorem dX10_challenges_61 : decode cX10_challenges 61 = .ok (.aload_n 0, 1) := by decide +kernel
theorem dX10_challenges_62 : decode cX10_challenges 62 = .ok (.getfield 419, 3) := by decide +kernel
theorem dX10_challenges_65 : decode cX10_challenges 65 = .ok (.invokevirtual 426, 3) := by decide +kernel
theorem dX10_challenges_68 : decode cX10_challenges 68 = .ok (.aload_n 0, 1) := by decide +kernel
theorem dX10_challenges_69 : decode cX10_challenges 69 = .ok (.aload_n 0, 1) := by decide +kernel
theorem dX10_challenges_70 : decode cX10_challenges 70 = .ok (.getfield 450, 3) := by decide +kernel
theorem dX10_challenges_73 : decode cX10_challenges 73 = .ok (.invokevirtual 426, 3) := by decide +kernel
theorem dX10_challenges_76 : decode cX10_challenges 76 = .ok (.aload_n 0, 1) := by decide +kernel
theorem dX10_challenges_77 : decode cX10_challenges 77 = .ok (.aload_n 0, 1) := by decide +kernel
theorem dX10_challenges_78 : decode cX10_challenges 78 = .ok (.getfield 453, 3) := by decide +kernel
theorem dX10_challenges_81 : decode cX10_challenges 81 = .ok (.invokevirtual 426, 3) := by decide +kernel
theorem dX10_challenges_84 : decode cX10_challenges 84 = .ok (.aload_n 0, 1) := by decide +kernel
theorem dX10_challenges_85 : decode cX10_challenges 85 = .ok (.ldc_w 456, 3) := by decide +kernel
theorem dX10_challenges_88 : decode cX10_challenges 88 = .ok (.invokevirtual 434, 3) := by decide +kernel
theorem dX10_challenges_91 : decode cX10_challenges 91 = .ok (.aload_n 0, 1) := by decide +kernel
theorem dX10_challenges_92 : decode cX10_challenges 92 = .ok (.aload_n 2, 1) := by decide +kernel
theorem dX10_challenges_93 : decode cX10_challenges 93 = .ok (.invokevirtual 440, 3) := by decide +kernel
theorem dX10_challenges_96 : decode cX10_challenges 96 = .ok (.iconst 1, 1) := by decide +kernel
theorem dX10_challenges_97 : decode cX10_challenges 97 = .ok (.ireturn, 1) := by decide +kernel
abbrev cX10_signs : ByteArray := prog_15_method_92_code
def yX10_signs : MethodName := ⟨RX10, "signs", "(I)I"⟩
theorem dX10_signs_0 : decode cX10_signs 0 = .ok (.aload_n 0, 1) := by decide +kernel
theorem dX10_signs_1 : decode cX10_signs 1 = .ok (.getfield 503, 3) := by decide +kernel
theorem dX10_signs_4 : decode cX10_signs 4 = .ok (.iload_n 1, 1) := by decide +kernel
theorem dX10_signs_5 : decode cX10_signs 5 = .ok (.aaload, 1) := by decide +kernel
theorem dX10_signs_6 : decode cX10_signs 6 = .ok (.astore_n 2, 1) := by decide +kernel
theorem dX10_signs_7 : decode cX10_signs 7 = .ok (.aload_n 0, 1) := by decide +kernel
theorem dX10_signs_8 : decode cX10_signs 8 = .ok (.getfield 534, 3) := by decide +kernel
theorem dX10_signs_11 : decode cX10_signs 11 = .ok (.iconst 3, 1) := by decide +kernel
theorem dX10_signs_12 : decode cX10_signs 12 = .ok (.aload_n 0, 1) := by decide +kernel
theorem dX10_signs_13 : decode cX10_signs 13 = .ok (.getfield 510, 3) := by decide +kernel
theorem dX10_signs_16 : decode cX10_signs 16 = .ok (.iload_n 1, 1) := by decide +kernel
theorem dX10_signs_17 : decode cX10_signs 17 = .ok (.iaload, 1) := by decide +kernel
theorem dX10_signs_18 : decode cX10_signs 18 = .ok (.aload_n 0, 1) := by decide +kernel
theorem dX10_signs_19 : decode cX10_signs 19 = .ok (.getfield 549, 3) := by decide +kernel
theorem dX10_signs_22 : decode cX10_signs 22 = .ok (.aload_n 2, 1) := by decide +kernel
theorem dX10_signs_23 : decode cX10_signs 23 = .ok (.getfield 13, 3) := by decide +kernel
theorem dX10_signs_26 : decode cX10_signs 26 = .ok (.invokestatic 217, 3) := by decide +kernel
theorem dX10_signs_29 : decode cX10_signs 29 = .ok (.aload_n 0, 1) := by decide +kernel
theorem dX10_signs_30 : decode cX10_signs 30 = .ok (.getfield 549, 3) := by decide +kernel
theorem dX10_signs_33 : decode cX10_signs 33 = .ok (.aload_n 2, 1) := by decide +kernel
theorem dX10_signs_34 : decode cX10_signs 34 = .ok (.getfield 22, 3) := by decide +kernel
theorem dX10_signs_37 : decode cX10_signs 37 = .ok (.aload_n 2, 1) := by decide +kernel
theorem dX10_signs_38 : decode cX10_signs 38 = .ok (.getfield 13, 3) := by decide +kernel
theorem dX10_signs_41 : decode cX10_signs 41 = .ok (.invokestatic 26, 3) := by decide +kernel
theorem dX10_signs_44 : decode cX10_signs 44 = .ok (.ifCond .lt 6, 3) := by decide +kernel
theorem dX10_signs_47 : decode cX10_signs 47 = .ok (.bipush (-4), 2) := by decide +kernel
theorem dX10_signs_49 : decode cX10_signs 49 = .ok (.ireturn, 1) := by decide +kernel
theorem dX10_signs_50 : decode cX10_signs 50 = .ok (.aload_n 0, 1) := by decide +kernel
theorem dX10_signs_51 : decode cX10_signs 51 = .ok (.aload_n 2, 1) := by decide +kernel
theorem dX10_signs_52 : decode cX10_signs 52 = .ok (.aload_n 0, 1) := by decide +kernel
theorem dX10_signs_53 : decode cX10_signs 53 = .ok (.getfield 549, 3) := by decide +kernel
theorem dX10_signs_56 : decode cX10_signs 56 = .ok (.aload_n 0, 1) := by decide +kernel
theorem dX10_signs_57 : decode cX10_signs 57 = .ok (.getfield 475, 3) := by decide +kernel
theorem dX10_signs_60 : decode cX10_signs 60 = .ok (.iload_n 1, 1) := by decide +kernel
theorem dX10_signs_61 : decode cX10_signs 61 = .ok (.aaload, 1) := by decide +kernel
theorem dX10_signs_62 : decode cX10_signs 62 = .ok (.bipush 32, 2) := by decide +kernel
theorem dX10_signs_64 : decode cX10_signs 64 = .ok (.aload_n 2, 1) := by decide +kernel
theorem dX10_signs_65 : decode cX10_signs 65 = .ok (.getfield 13, 3) := by decide +kernel
theorem dX10_signs_68 : decode cX10_signs 68 = .ok (.imul, 1) := by decide +kernel
theorem dX10_signs_69 : decode cX10_signs 69 = .ok (.aload_n 0, 1) := by decide +kernel
theorem dX10_signs_70 : decode cX10_signs 70 = .ok (.getfield 552, 3) := by decide +kernel
theorem dX10_signs_73 : decode cX10_signs 73 = .ok (.invokevirtual 213, 3) := by decide +kernel
theorem dX10_signs_76 : decode cX10_signs 76 = .ok (.aload_n 0, 1) := by decide +kernel
theorem dX10_signs_77 : decode cX10_signs 77 = .ok (.iload_n 1, 1) := by decide +kernel
theorem dX10_signs_78 : decode cX10_signs 78 = .ok (.aload_n 0, 1) := by decide +kernel
theorem dX10_signs_79 : decode cX10_signs 79 = .ok (.getfield 552, 3) := by decide +kernel
theorem dX10_signs_82 : decode cX10_signs 82 = .ok (.aload_n 0, 1) := by decide +kernel
theorem dX10_signs_83 : decode cX10_signs 83 = .ok (.getfield 555, 3) := by decide +kernel
theorem dX10_signs_86 : decode cX10_signs 86 = .ok (.invokevirtual 602, 3) := by decide +kernel
theorem dX10_signs_89 : decode cX10_signs 89 = .ok (.aload_n 0, 1) := by decide +kernel
theorem dX10_signs_90 : decode cX10_signs 90 = .ok (.getfield 555, 3) := by decide +kernel
theorem dX10_signs_93 : decode cX10_signs 93 = .ok (.aload_n 0, 1) := by decide +kernel
theorem dX10_signs_94 : decode cX10_signs 94 = .ok (.getfield 549, 3) := by decide +kernel
theorem dX10_signs_97 : decode cX10_signs 97 = .ok (.aload_n 2, 1) := by decide +kernel
theorem dX10_signs_98 : decode cX10_signs 98 = .ok (.getfield 13, 3) := by decide +kernel
theorem dX10_signs_101 : decode cX10_signs 101 = .ok (.invokestatic 26, 3) := by decide +kernel
theorem dX10_signs_104 : decode cX10_signs 104 = .ok (.ifCond .eq 6, 3) := by decide +kernel
theorem dX10_signs_107 : decode cX10_signs 107 = .ok (.bipush (-4), 2) := by decide +kernel
theorem dX10_signs_109 : decode cX10_signs 109 = .ok (.ireturn, 1) := by decide +kernel
theorem dX10_signs_110 : decode cX10_signs 110 = .ok (.aload_n 0, 1) := by decide +kernel
theorem dX10_signs_111 : decode cX10_signs 111 = .ok (.getfield 552, 3) := by decide +kernel
theorem dX10_signs_114 : decode cX10_signs 114 = .ok (.aload_n 0, 1) := by decide +kernel
theorem dX10_signs_115 : decode cX10_signs 115 = .ok (.getfield 537, 3) := by decide +kernel
theorem dX10_signs_118 : decode cX10_signs 118 = .ok (.iconst 0, 1) := by decide +kernel
theorem dX10_signs_119 : decode cX10_signs 119 = .ok (.aload_n 0, 1) := by decide +kernel
theorem dX10_signs_120 : decode cX10_signs 120 = .ok (.getfield 510, 3) := by decide +kernel
theorem dX10_signs_123 : decode cX10_signs 123 = .ok (.iload_n 1, 1) := by decide +kernel
theorem dX10_signs_124 : decode cX10_signs 124 = .ok (.iaload, 1) := by decide +kernel
theorem dX10_signs_125 : decode cX10_signs 125 = .ok (.invokestatic 232, 3) := by decide +kernel
theorem dX10_signs_128 : decode cX10_signs 128 = .ok (.aload_n 0, 1) := by decide +kernel
theorem dX10_signs_129 : decode cX10_signs 129 = .ok (.aload_n 0, 1) := by decide +kernel
theorem dX10_signs_130 : decode cX10_signs 130 = .ok (.getfield 510, 3) := by decide +kernel
theorem dX10_signs_133 : decode cX10_signs 133 = .ok (.iload_n 1, 1) := by decide +kernel
theorem dX10_signs_134 : decode cX10_signs 134 = .ok (.iaload, 1) := by decide +kernel
theorem dX10_signs_135 : decode cX10_signs 135 = .ok (.putfield 606, 3) := by decide +kernel
theorem dX10_signs_138 : decode cX10_signs 138 = .ok (.aload_n 0, 1) := by decide +kernel
theorem dX10_signs_139 : decode cX10_signs 139 = .ok (.getfield 606, 3) := by decide +kernel
theorem dX10_signs_142 : decode cX10_signs 142 = .ok (.ireturn, 1) := by decide +kernel
abbrev cX10_issueMany : ByteArray := prog_15_method_90_code
def yX10_issueMany : MethodName := ⟨RX10, "issueMany", "(I)I"⟩
theorem dX10_issueMany_0 : decode cX10_issueMany 0 = .ok (.aload_n 0, 1) := by decide +kernel
theorem dX10_issueMany_1 : decode cX10_issueMany 1 = .ok (.invokevirtual 612, 3) := by decide +kernel
theorem dX10_issueMany_4 : decode cX10_issueMany 4 = .ok (.istore_n 2, 1) := by decide +kernel
theorem dX10_issueMany_5 : decode cX10_issueMany 5 = .ok (.iload_n 1, 1) := by decide +kernel
theorem dX10_issueMany_6 : decode cX10_issueMany 6 = .ok (.iconst 1, 1) := by decide +kernel
theorem dX10_issueMany_7 : decode cX10_issueMany 7 = .ok (.if_icmp .lt 22, 3) := by decide +kernel
theorem dX10_issueMany_10 : decode cX10_issueMany 10 = .ok (.iload_n 1, 1) := by decide +kernel
theorem dX10_issueMany_11 : decode cX10_issueMany 11 = .ok (.bipush 8, 2) := by decide +kernel
theorem dX10_issueMany_13 : decode cX10_issueMany 13 = .ok (.if_icmp .gt 16, 3) := by decide +kernel
theorem dX10_issueMany_16 : decode cX10_issueMany 16 = .ok (.iload_n 2, 1) := by decide +kernel
theorem dX10_issueMany_17 : decode cX10_issueMany 17 = .ok (.iconst 3, 1) := by decide +kernel
theorem dX10_issueMany_18 : decode cX10_issueMany 18 = .ok (.if_icmp .lt 11, 3) := by decide +kernel
theorem dX10_issueMany_21 : decode cX10_issueMany 21 = .ok (.aload_n 0, 1) := by decide +kernel
theorem dX10_issueMany_22 : decode cX10_issueMany 22 = .ok (.iconst 1, 1) := by decide +kernel
theorem dX10_issueMany_23 : decode cX10_issueMany 23 = .ok (.invokevirtual 658, 3) := by decide +kernel
theorem dX10_issueMany_26 : decode cX10_issueMany 26 = .ok (.ifCond .ne 6, 3) := by decide +kernel
theorem dX10_issueMany_29 : decode cX10_issueMany 29 = .ok (.bipush (-2), 2) := by decide +kernel
theorem dX10_issueMany_31 : decode cX10_issueMany 31 = .ok (.ireturn, 1) := by decide +kernel
theorem dX10_issueMany_32 : decode cX10_issueMany 32 = .ok (.aload_n 0, 1) := by decide +kernel
theorem dX10_issueMany_33 : decode cX10_issueMany 33 = .ok (.iconst 1, 1) := by decide +kernel
theorem dX10_issueMany_34 : decode cX10_issueMany 34 = .ok (.aload_n 0, 1) := by decide +kernel
theorem dX10_issueMany_35 : decode cX10_issueMany 35 = .ok (.getfield 534, 3) := by decide +kernel
theorem dX10_issueMany_38 : decode cX10_issueMany 38 = .ok (.iconst 2, 1) := by decide +kernel
theorem dX10_issueMany_39 : decode cX10_issueMany 39 = .ok (.baload, 1) := by decide +kernel
theorem dX10_issueMany_40 : decode cX10_issueMany 40 = .ok (.invokevirtual 661, 3) := by decide +kernel
theorem dX10_issueMany_43 : decode cX10_issueMany 43 = .ok (.istore_n 3, 1) := by decide +kernel
theorem dX10_issueMany_44 : decode cX10_issueMany 44 = .ok (.iload_n 3, 1) := by decide +kernel
theorem dX10_issueMany_45 : decode cX10_issueMany 45 = .ok (.ifCond .ge 6, 3) := by decide +kernel
theorem dX10_issueMany_48 : decode cX10_issueMany 48 = .ok (.bipush (-3), 2) := by decide +kernel
theorem dX10_issueMany_50 : decode cX10_issueMany 50 = .ok (.ireturn, 1) := by decide +kernel
theorem dX10_issueMany_51 : decode cX10_issueMany 51 = .ok (.iload_n 2, 1) := by decide +kernel
theorem dX10_issueMany_52 : decode cX10_issueMany 52 = .ok (.iconst 3, 1) := by decide +kernel
theorem dX10_issueMany_53 : decode cX10_issueMany 53 = .ok (.bipush 49, 2) := by decide +kernel
theorem dX10_issueMany_55 : decode cX10_issueMany 55 = .ok (.iload_n 1, 1) := by decide +kernel
theorem dX10_issueMany_56 : decode cX10_issueMany 56 = .ok (.imul, 1) := by decide +kernel
theorem dX10_issueMany_57 : decode cX10_issueMany 57 = .ok (.iadd, 1) := by decide +kernel
theorem dX10_issueMany_58 : decode cX10_issueMany 58 = .ok (.bipush 48, 2) := by decide +kernel
theorem dX10_issueMany_60 : decode cX10_issueMany 60 = .ok (.iadd, 1) := by decide +kernel
theorem dX10_issueMany_61 : decode cX10_issueMany 61 = .ok (.if_icmp .eq 6, 3) := by decide +kernel
theorem dX10_issueMany_64 : decode cX10_issueMany 64 = .ok (.bipush (-2), 2) := by decide +kernel
theorem dX10_issueMany_66 : decode cX10_issueMany 66 = .ok (.ireturn, 1) := by decide +kernel
theorem dX10_issueMany_67 : decode cX10_issueMany 67 = .ok (.aload_n 0, 1) := by decide +kernel
theorem dX10_issueMany_68 : decode cX10_issueMany 68 = .ok (.iload_n 3, 1) := by decide +kernel
theorem dX10_issueMany_69 : decode cX10_issueMany 69 = .ok (.iload_n 1, 1) := by decide +kernel
theorem dX10_issueMany_70 : decode cX10_issueMany 70 = .ok (.invokevirtual 664, 3) := by decide +kernel
theorem dX10_issueMany_73 : decode cX10_issueMany 73 = .ok (.ireturn, 1) := by decide +kernel
abbrev cX10_finalize : ByteArray := prog_15_method_94_code
def yX10_finalize : MethodName := ⟨RX10, "finalize", "(I)I"⟩
theorem dX10_finalize_0 : decode cX10_finalize 0 = .ok (.aload_n 0, 1) := by decide +kernel
theorem dX10_finalize_1 : decode cX10_finalize 1 = .ok (.invokevirtual 612, 3) := by decide +kernel
theorem dX10_finalize_4 : decode cX10_finalize 4 = .ok (.istore_n 2, 1) := by decide +kernel
theorem dX10_finalize_5 : decode cX10_finalize 5 = .ok (.aload_n 0, 1) := by decide +kernel
theorem dX10_finalize_6 : decode cX10_finalize 6 = .ok (.iload_n 1, 1) := by decide +kernel
theorem dX10_finalize_7 : decode cX10_finalize 7 = .ok (.invokevirtual 678, 3) := by decide +kernel
theorem dX10_finalize_10 : decode cX10_finalize 10 = .ok (.ifCond .ne 10, 3) := by decide +kernel
theorem dX10_finalize_13 : decode cX10_finalize 13 = .ok (.aload_n 0, 1) := by decide +kernel
theorem dX10_finalize_14 : decode cX10_finalize 14 = .ok (.iconst 1, 1) := by decide +kernel
theorem dX10_finalize_15 : decode cX10_finalize 15 = .ok (.putfield 1, 3) := by decide +kernel
theorem dX10_finalize_18 : decode cX10_finalize 18 = .ok (.iconst 0, 1) := by decide +kernel
theorem dX10_finalize_19 : decode cX10_finalize 19 = .ok (.ireturn, 1) := by decide +kernel
theorem dX10_finalize_20 : decode cX10_finalize 20 = .ok (.aload_n 0, 1) := by decide +kernel
theorem dX10_finalize_21 : decode cX10_finalize 21 = .ok (.getfield 516, 3) := by decide +kernel
theorem dX10_finalize_24 : decode cX10_finalize 24 = .ok (.iload_n 1, 1) := by decide +kernel
theorem dX10_finalize_25 : decode cX10_finalize 25 = .ok (.iaload, 1) := by decide +kernel
theorem dX10_finalize_26 : decode cX10_finalize 26 = .ok (.istore_n 3, 1) := by decide +kernel
theorem dX10_finalize_27 : decode cX10_finalize 27 = .ok (.aload_n 0, 1) := by decide +kernel
theorem dX10_finalize_28 : decode cX10_finalize 28 = .ok (.getfield 492, 3) := by decide +kernel
theorem dX10_finalize_31 : decode cX10_finalize 31 = .ok (.iload_n 3, 1) := by decide +kernel
theorem dX10_finalize_32 : decode cX10_finalize 32 = .ok (.iaload, 1) := by decide +kernel
theorem dX10_finalize_33 : decode cX10_finalize 33 = .ok (.iconst 1, 1) := by decide +kernel
theorem dX10_finalize_34 : decode cX10_finalize 34 = .ok (.if_icmp .ne 11, 3) := by decide +kernel
theorem dX10_finalize_37 : decode cX10_finalize 37 = .ok (.aload_n 0, 1) := by decide +kernel
theorem dX10_finalize_38 : decode cX10_finalize 38 = .ok (.iload_n 1, 1) := by decide +kernel
theorem dX10_finalize_39 : decode cX10_finalize 39 = .ok (.iconst 1, 1) := by decide +kernel
theorem dX10_finalize_40 : decode cX10_finalize 40 = .ok (.iload_n 2, 1) := by decide +kernel
theorem dX10_finalize_41 : decode cX10_finalize 41 = .ok (.invokevirtual 681, 3) := by decide +kernel
theorem dX10_finalize_44 : decode cX10_finalize 44 = .ok (.ireturn, 1) := by decide +kernel
theorem dX10_finalize_45 : decode cX10_finalize 45 = .ok (.iload_n 2, 1) := by decide +kernel
theorem dX10_finalize_46 : decode cX10_finalize 46 = .ok (.aload_n 0, 1) := by decide +kernel
theorem dX10_finalize_47 : decode cX10_finalize 47 = .ok (.getfield 510, 3) := by decide +kernel
theorem dX10_finalize_50 : decode cX10_finalize 50 = .ok (.iload_n 3, 1) := by decide +kernel
theorem dX10_finalize_51 : decode cX10_finalize 51 = .ok (.iaload, 1) := by decide +kernel
theorem dX10_finalize_52 : decode cX10_finalize 52 = .ok (.if_icmp .eq 6, 3) := by decide +kernel
theorem dX10_finalize_55 : decode cX10_finalize 55 = .ok (.bipush (-2), 2) := by decide +kernel
theorem dX10_finalize_57 : decode cX10_finalize 57 = .ok (.ireturn, 1) := by decide +kernel
theorem dX10_finalize_58 : decode cX10_finalize 58 = .ok (.aload_n 0, 1) := by decide +kernel
theorem dX10_finalize_59 : decode cX10_finalize 59 = .ok (.iload_n 1, 1) := by decide +kernel
theorem dX10_finalize_60 : decode cX10_finalize 60 = .ok (.iload_n 3, 1) := by decide +kernel
theorem dX10_finalize_61 : decode cX10_finalize 61 = .ok (.invokevirtual 685, 3) := by decide +kernel
theorem dX10_finalize_64 : decode cX10_finalize 64 = .ok (.ireturn, 1) := by decide +kernel
abbrev cX10_isAsking : ByteArray := prog_15_method_93_code
def yX10_isAsking : MethodName := ⟨RX10, "isAsking", "(I)Z"⟩
theorem dX10_isAsking_0 : decode cX10_isAsking 0 = .ok (.iload_n 1, 1) := by decide +kernel
theorem dX10_isAsking_1 : decode cX10_isAsking 1 = .ok (.ifCond .lt 24, 3) := by decide +kernel
theorem dX10_isAsking_4 : decode cX10_isAsking 4 = .ok (.iload_n 1, 1) := by decide +kernel
theorem dX10_isAsking_5 : decode cX10_isAsking 5 = .ok (.aload_n 0, 1) := by decide +kernel
theorem dX10_isAsking_6 : decode cX10_isAsking 6 = .ok (.getfield 640, 3) := by decide +kernel
theorem dX10_isAsking_9 : decode cX10_isAsking 9 = .ok (.if_icmp .ge 16, 3) := by decide +kernel
theorem dX10_isAsking_12 : decode cX10_isAsking 12 = .ok (.aload_n 0, 1) := by decide +kernel
theorem dX10_isAsking_13 : decode cX10_isAsking 13 = .ok (.getfield 519, 3) := by decide +kernel
theorem dX10_isAsking_16 : decode cX10_isAsking 16 = .ok (.iload_n 1, 1) := by decide +kernel
theorem dX10_isAsking_17 : decode cX10_isAsking 17 = .ok (.baload, 1) := by decide +kernel
theorem dX10_isAsking_18 : decode cX10_isAsking 18 = .ok (.ifCond .eq 7, 3) := by decide +kernel
theorem dX10_isAsking_21 : decode cX10_isAsking 21 = .ok (.iconst 1, 1) := by decide +kernel
theorem dX10_isAsking_22 : decode cX10_isAsking 22 = .ok (.goto 4, 3) := by decide +kernel
theorem dX10_isAsking_25 : decode cX10_isAsking 25 = .ok (.iconst 0, 1) := by decide +kernel
theorem dX10_isAsking_26 : decode cX10_isAsking 26 = .ok (.ireturn, 1) := by decide +kernel
abbrev cX10_ends : ByteArray := prog_15_method_97_code
def yX10_ends : MethodName := ⟨RX10, "ends", "(III)I"⟩
theorem dX10_ends_0 : decode cX10_ends 0 = .ok (.aload_n 0, 1) := by decide +kernel
theorem dX10_ends_1 : decode cX10_ends 1 = .ok (.getfield 516, 3) := by decide +kernel
theorem dX10_ends_4 : decode cX10_ends 4 = .ok (.iload_n 1, 1) := by decide +kernel
theorem dX10_ends_5 : decode cX10_ends 5 = .ok (.iaload, 1) := by decide +kernel
theorem dX10_ends_6 : decode cX10_ends 6 = .ok (.istore 4, 2) := by decide +kernel
theorem dX10_ends_8 : decode cX10_ends 8 = .ok (.iload_n 3, 1) := by decide +kernel
theorem dX10_ends_9 : decode cX10_ends 9 = .ok (.bipush 49, 2) := by decide +kernel
theorem dX10_ends_11 : decode cX10_ends 11 = .ok (.iload_n 2, 1) := by decide +kernel
theorem dX10_ends_12 : decode cX10_ends 12 = .ok (.imul, 1) := by decide +kernel
theorem dX10_ends_13 : decode cX10_ends 13 = .ok (.bipush 96, 2) := by decide +kernel
theorem dX10_ends_15 : decode cX10_ends 15 = .ok (.iadd, 1) := by decide +kernel
theorem dX10_ends_16 : decode cX10_ends 16 = .ok (.if_icmp .eq 6, 3) := by decide +kernel
theorem dX10_ends_19 : decode cX10_ends 19 = .ok (.bipush (-2), 2) := by decide +kernel
theorem dX10_ends_21 : decode cX10_ends 21 = .ok (.ireturn, 1) := by decide +kernel
theorem dX10_ends_22 : decode cX10_ends 22 = .ok (.iconst 0, 1) := by decide +kernel
theorem dX10_ends_23 : decode cX10_ends 23 = .ok (.istore 5, 2) := by decide +kernel
theorem dX10_ends_25 : decode cX10_ends 25 = .ok (.iload 5, 2) := by decide +kernel
theorem dX10_ends_27 : decode cX10_ends 27 = .ok (.iload_n 2, 1) := by decide +kernel
theorem dX10_ends_28 : decode cX10_ends 28 = .ok (.if_icmp .ge 35, 3) := by decide +kernel
theorem dX10_ends_31 : decode cX10_ends 31 = .ok (.aload_n 0, 1) := by decide +kernel
theorem dX10_ends_32 : decode cX10_ends 32 = .ok (.aload_n 0, 1) := by decide +kernel
theorem dX10_ends_33 : decode cX10_ends 33 = .ok (.getfield 534, 3) := by decide +kernel
theorem dX10_ends_36 : decode cX10_ends 36 = .ok (.bipush 49, 2) := by decide +kernel
theorem dX10_ends_38 : decode cX10_ends 38 = .ok (.iload 5, 2) := by decide +kernel
theorem dX10_ends_40 : decode cX10_ends 40 = .ok (.imul, 1) := by decide +kernel
theorem dX10_ends_41 : decode cX10_ends 41 = .ok (.aload_n 0, 1) := by decide +kernel
theorem dX10_ends_42 : decode cX10_ends 42 = .ok (.getfield 429, 3) := by decide +kernel
theorem dX10_ends_45 : decode cX10_ends 45 = .ok (.iload 5, 2) := by decide +kernel
theorem dX10_ends_47 : decode cX10_ends 47 = .ok (.aaload, 1) := by decide +kernel
theorem dX10_ends_48 : decode cX10_ends 48 = .ok (.invokevirtual 670, 3) := by decide +kernel
theorem dX10_ends_51 : decode cX10_ends 51 = .ok (.ifCond .ne 6, 3) := by decide +kernel
theorem dX10_ends_54 : decode cX10_ends 54 = .ok (.bipush (-4), 2) := by decide +kernel
theorem dX10_ends_56 : decode cX10_ends 56 = .ok (.ireturn, 1) := by decide +kernel
theorem dX10_ends_57 : decode cX10_ends 57 = .ok (.iinc 5 1, 3) := by decide +kernel
theorem dX10_ends_60 : decode cX10_ends 60 = .ok (.goto (-35), 3) := by decide +kernel
theorem dX10_ends_63 : decode cX10_ends 63 = .ok (.aload_n 0, 1) := by decide +kernel
theorem dX10_ends_64 : decode cX10_ends 64 = .ok (.getfield 534, 3) := by decide +kernel
theorem dX10_ends_67 : decode cX10_ends 67 = .ok (.bipush 49, 2) := by decide +kernel
theorem dX10_ends_69 : decode cX10_ends 69 = .ok (.iload_n 2, 1) := by decide +kernel
theorem dX10_ends_70 : decode cX10_ends 70 = .ok (.imul, 1) := by decide +kernel
theorem dX10_ends_71 : decode cX10_ends 71 = .ok (.bipush 48, 2) := by decide +kernel
theorem dX10_ends_73 : decode cX10_ends 73 = .ok (.aload_n 0, 1) := by decide +kernel
theorem dX10_ends_74 : decode cX10_ends 74 = .ok (.getfield 468, 3) := by decide +kernel
theorem dX10_ends_77 : decode cX10_ends 77 = .ok (.bipush 12, 2) := by decide +kernel
theorem dX10_ends_79 : decode cX10_ends 79 = .ok (.invokestatic 217, 3) := by decide +kernel
theorem dX10_ends_82 : decode cX10_ends 82 = .ok (.aload_n 0, 1) := by decide +kernel
theorem dX10_ends_83 : decode cX10_ends 83 = .ok (.getfield 534, 3) := by decide +kernel
theorem dX10_ends_86 : decode cX10_ends 86 = .ok (.bipush 49, 2) := by decide +kernel
theorem dX10_ends_88 : decode cX10_ends 88 = .ok (.iload_n 2, 1) := by decide +kernel
theorem dX10_ends_89 : decode cX10_ends 89 = .ok (.imul, 1) := by decide +kernel
theorem dX10_ends_90 : decode cX10_ends 90 = .ok (.bipush 48, 2) := by decide +kernel
theorem dX10_ends_92 : decode cX10_ends 92 = .ok (.iadd, 1) := by decide +kernel
theorem dX10_ends_93 : decode cX10_ends 93 = .ok (.bipush 48, 2) := by decide +kernel
theorem dX10_ends_95 : decode cX10_ends 95 = .ok (.aload_n 0, 1) := by decide +kernel
theorem dX10_ends_96 : decode cX10_ends 96 = .ok (.getfield 479, 3) := by decide +kernel
theorem dX10_ends_99 : decode cX10_ends 99 = .ok (.bipush 12, 2) := by decide +kernel
theorem dX10_ends_101 : decode cX10_ends 101 = .ok (.invokestatic 217, 3) := by decide +kernel
theorem dX10_ends_104 : decode cX10_ends 104 = .ok (.aload_n 0, 1) := by decide +kernel
theorem dX10_ends_105 : decode cX10_ends 105 = .ok (.getfield 468, 3) := by decide +kernel
theorem dX10_ends_108 : decode cX10_ends 108 = .ok (.getstatic 236, 3) := by decide +kernel
theorem dX10_ends_111 : decode cX10_ends 111 = .ok (.bipush 12, 2) := by decide +kernel
theorem dX10_ends_113 : decode cX10_ends 113 = .ok (.invokestatic 26, 3) := by decide +kernel
theorem dX10_ends_116 : decode cX10_ends 116 = .ok (.ifCond .ge 18, 3) := by decide +kernel
theorem dX10_ends_119 : decode cX10_ends 119 = .ok (.aload_n 0, 1) := by decide +kernel
theorem dX10_ends_120 : decode cX10_ends 120 = .ok (.getfield 479, 3) := by decide +kernel
theorem dX10_ends_123 : decode cX10_ends 123 = .ok (.getstatic 236, 3) := by decide +kernel
theorem dX10_ends_126 : decode cX10_ends 126 = .ok (.bipush 12, 2) := by decide +kernel
theorem dX10_ends_128 : decode cX10_ends 128 = .ok (.invokestatic 26, 3) := by decide +kernel
theorem dX10_ends_131 : decode cX10_ends 131 = .ok (.ifCond .lt 6, 3) := by decide +kernel
theorem dX10_ends_134 : decode cX10_ends 134 = .ok (.bipush (-4), 2) := by decide +kernel
theorem dX10_ends_136 : decode cX10_ends 136 = .ok (.ireturn, 1) := by decide +kernel
theorem dX10_ends_137 : decode cX10_ends 137 = .ok (.iconst 0, 1) := by decide +kernel
theorem dX10_ends_138 : decode cX10_ends 138 = .ok (.istore 5, 2) := by decide +kernel
theorem dX10_ends_140 : decode cX10_ends 140 = .ok (.iload 5, 2) := by decide +kernel
theorem dX10_ends_142 : decode cX10_ends 142 = .ok (.iload_n 2, 1) := by decide +kernel
theorem dX10_ends_143 : decode cX10_ends 143 = .ok (.if_icmp .ge 54, 3) := by decide +kernel
theorem dX10_ends_146 : decode cX10_ends 146 = .ok (.aload_n 0, 1) := by decide +kernel
theorem dX10_ends_147 : decode cX10_ends 147 = .ok (.aload_n 0, 1) := by decide +kernel
theorem dX10_ends_148 : decode cX10_ends 148 = .ok (.getfield 522, 3) := by decide +kernel
theorem dX10_ends_151 : decode cX10_ends 151 = .ok (.bipush 98, 2) := by decide +kernel
theorem dX10_ends_153 : decode cX10_ends 153 = .ok (.iload_n 1, 1) := by decide +kernel
theorem dX10_ends_154 : decode cX10_ends 154 = .ok (.iload 5, 2) := by decide +kernel
theorem dX10_ends_156 : decode cX10_ends 156 = .ok (.iadd, 1) := by decide +kernel
theorem dX10_ends_157 : decode cX10_ends 157 = .ok (.imul, 1) := by decide +kernel
theorem dX10_ends_158 : decode cX10_ends 158 = .ok (.bipush 98, 2) := by decide +kernel
theorem dX10_ends_160 : decode cX10_ends 160 = .ok (.aload_n 0, 1) := by decide +kernel
theorem dX10_ends_161 : decode cX10_ends 161 = .ok (.getfield 564, 3) := by decide +kernel
theorem dX10_ends_164 : decode cX10_ends 164 = .ok (.invokevirtual 650, 3) := by decide +kernel
theorem dX10_ends_167 : decode cX10_ends 167 = .ok (.aload_n 0, 1) := by decide +kernel
theorem dX10_ends_168 : decode cX10_ends 168 = .ok (.aload_n 0, 1) := by decide +kernel
theorem dX10_ends_169 : decode cX10_ends 169 = .ok (.getfield 525, 3) := by decide +kernel
theorem dX10_ends_172 : decode cX10_ends 172 = .ok (.iload_n 1, 1) := by decide +kernel
theorem dX10_ends_173 : decode cX10_ends 173 = .ok (.iload 5, 2) := by decide +kernel
theorem dX10_ends_175 : decode cX10_ends 175 = .ok (.iadd, 1) := by decide +kernel
theorem dX10_ends_176 : decode cX10_ends 176 = .ok (.aaload, 1) := by decide +kernel
theorem dX10_ends_177 : decode cX10_ends 177 = .ok (.aload_n 0, 1) := by decide +kernel
theorem dX10_ends_178 : decode cX10_ends 178 = .ok (.getfield 564, 3) := by decide +kernel
theorem dX10_ends_181 : decode cX10_ends 181 = .ok (.aload_n 0, 1) := by decide +kernel
theorem dX10_ends_182 : decode cX10_ends 182 = .ok (.getfield 422, 3) := by decide +kernel
theorem dX10_ends_185 : decode cX10_ends 185 = .ok (.iload 5, 2) := by decide +kernel
theorem dX10_ends_187 : decode cX10_ends 187 = .ok (.aaload, 1) := by decide +kernel
theorem dX10_ends_188 : decode cX10_ends 188 = .ok (.invokevirtual 446, 3) := by decide +kernel
theorem dX10_ends_191 : decode cX10_ends 191 = .ok (.iinc 5 1, 3) := by decide +kernel
theorem dX10_ends_194 : decode cX10_ends 194 = .ok (.goto (-54), 3) := by decide +kernel
theorem dX10_ends_197 : decode cX10_ends 197 = .ok (.aload_n 0, 1) := by decide +kernel
theorem dX10_ends_198 : decode cX10_ends 198 = .ok (.iload 4, 2) := by decide +kernel
theorem dX10_ends_200 : decode cX10_ends 200 = .ok (.iload_n 2, 1) := by decide +kernel
theorem dX10_ends_201 : decode cX10_ends 201 = .ok (.invokevirtual 690, 3) := by decide +kernel
theorem dX10_ends_204 : decode cX10_ends 204 = .ok (.ifCond .ne 6, 3) := by decide +kernel
theorem dX10_ends_207 : decode cX10_ends 207 = .ok (.bipush (-4), 2) := by decide +kernel
theorem dX10_ends_209 : decode cX10_ends 209 = .ok (.ireturn, 1) := by decide +kernel
theorem dX10_ends_210 : decode cX10_ends 210 = .ok (.iconst 0, 1) := by decide +kernel
theorem dX10_ends_211 : decode cX10_ends 211 = .ok (.istore 5, 2) := by decide +kernel
theorem dX10_ends_213 : decode cX10_ends 213 = .ok (.iload 5, 2) := by decide +kernel
theorem dX10_ends_215 : decode cX10_ends 215 = .ok (.iload_n 2, 1) := by decide +kernel
theorem dX10_ends_216 : decode cX10_ends 216 = .ok (.if_icmp .ge 119, 3) := by decide +kernel
theorem dX10_ends_219 : decode cX10_ends 219 = .ok (.aload_n 0, 1) := by decide +kernel
theorem dX10_ends_220 : decode cX10_ends 220 = .ok (.aload_n 0, 1) := by decide +kernel
theorem dX10_ends_221 : decode cX10_ends 221 = .ok (.getfield 360, 3) := by decide +kernel
theorem dX10_ends_224 : decode cX10_ends 224 = .ok (.aload_n 0, 1) := by decide +kernel
theorem dX10_ends_225 : decode cX10_ends 225 = .ok (.getfield 525, 3) := by decide +kernel
theorem dX10_ends_228 : decode cX10_ends 228 = .ok (.iload_n 1, 1) := by decide +kernel
theorem dX10_ends_229 : decode cX10_ends 229 = .ok (.iload 5, 2) := by decide +kernel
theorem dX10_ends_231 : decode cX10_ends 231 = .ok (.iadd, 1) := by decide +kernel
theorem dX10_ends_232 : decode cX10_ends 232 = .ok (.aaload, 1) := by decide +kernel
theorem dX10_ends_233 : decode cX10_ends 233 = .ok (.aload_n 0, 1) := by decide +kernel
theorem dX10_ends_234 : decode cX10_ends 234 = .ok (.getfield 437, 3) := by decide +kernel
theorem dX10_ends_237 : decode cX10_ends 237 = .ok (.invokevirtual 161, 3) := by decide +kernel
theorem dX10_ends_240 : decode cX10_ends 240 = .ok (.istore 6, 2) := by decide +kernel
theorem dX10_ends_242 : decode cX10_ends 242 = .ok (.aload_n 0, 1) := by decide +kernel
theorem dX10_ends_243 : decode cX10_ends 243 = .ok (.aload_n 0, 1) := by decide +kernel
theorem dX10_ends_244 : decode cX10_ends 244 = .ok (.getfield 437, 3) := by decide +kernel
theorem dX10_ends_247 : decode cX10_ends 247 = .ok (.aload_n 0, 1) := by decide +kernel
theorem dX10_ends_248 : decode cX10_ends 248 = .ok (.getfield 429, 3) := by decide +kernel
theorem dX10_ends_251 : decode cX10_ends 251 = .ok (.iload 5, 2) := by decide +kernel
theorem dX10_ends_253 : decode cX10_ends 253 = .ok (.aaload, 1) := by decide +kernel
theorem dX10_ends_254 : decode cX10_ends 254 = .ok (.aload_n 0, 1) := by decide +kernel
theorem dX10_ends_255 : decode cX10_ends 255 = .ok (.getfield 564, 3) := by decide +kernel
theorem dX10_ends_258 : decode cX10_ends 258 = .ok (.invokevirtual 446, 3) := by decide +kernel
theorem dX10_ends_261 : decode cX10_ends 261 = .ok (.aload_n 0, 1) := by decide +kernel
theorem dX10_ends_262 : decode cX10_ends 262 = .ok (.getfield 564, 3) := by decide +kernel
theorem dX10_ends_265 : decode cX10_ends 265 = .ok (.getfield 136, 3) := by decide +kernel
theorem dX10_ends_268 : decode cX10_ends 268 = .ok (.ifCond .eq 6, 3) := by decide +kernel
theorem dX10_ends_271 : decode cX10_ends 271 = .ok (.bipush (-4), 2) := by decide +kernel
theorem dX10_ends_273 : decode cX10_ends 273 = .ok (.ireturn, 1) := by decide +kernel
theorem dX10_ends_274 : decode cX10_ends 274 = .ok (.aload_n 0, 1) := by decide +kernel
theorem dX10_ends_275 : decode cX10_ends 275 = .ok (.aload_n 0, 1) := by decide +kernel
theorem dX10_ends_276 : decode cX10_ends 276 = .ok (.getfield 522, 3) := by decide +kernel
theorem dX10_ends_279 : decode cX10_ends 279 = .ok (.bipush 98, 2) := by decide +kernel
theorem dX10_ends_281 : decode cX10_ends 281 = .ok (.iload_n 1, 1) := by decide +kernel
theorem dX10_ends_282 : decode cX10_ends 282 = .ok (.iload 5, 2) := by decide +kernel
theorem dX10_ends_284 : decode cX10_ends 284 = .ok (.iadd, 1) := by decide +kernel
theorem dX10_ends_285 : decode cX10_ends 285 = .ok (.imul, 1) := by decide +kernel
theorem dX10_ends_286 : decode cX10_ends 286 = .ok (.aload_n 0, 1) := by decide +kernel
theorem dX10_ends_287 : decode cX10_ends 287 = .ok (.getfield 564, 3) := by decide +kernel
theorem dX10_ends_290 : decode cX10_ends 290 = .ok (.invokevirtual 693, 3) := by decide +kernel
theorem dX10_ends_293 : decode cX10_ends 293 = .ok (.iconst 0, 1) := by decide +kernel
theorem dX10_ends_294 : decode cX10_ends 294 = .ok (.istore 7, 2) := by decide +kernel
theorem dX10_ends_296 : decode cX10_ends 296 = .ok (.iload 7, 2) := by decide +kernel
theorem dX10_ends_298 : decode cX10_ends 298 = .ok (.bipush 48, 2) := by decide +kernel
theorem dX10_ends_300 : decode cX10_ends 300 = .ok (.if_icmp .ge 29, 3) := by decide +kernel
theorem dX10_ends_303 : decode cX10_ends 303 = .ok (.aload_n 0, 1) := by decide +kernel
theorem dX10_ends_304 : decode cX10_ends 304 = .ok (.getfield 570, 3) := by decide +kernel
theorem dX10_ends_307 : decode cX10_ends 307 = .ok (.bipush 48, 2) := by decide +kernel
theorem dX10_ends_309 : decode cX10_ends 309 = .ok (.iload 5, 2) := by decide +kernel
theorem dX10_ends_311 : decode cX10_ends 311 = .ok (.imul, 1) := by decide +kernel
theorem dX10_ends_312 : decode cX10_ends 312 = .ok (.iload 7, 2) := by decide +kernel
theorem dX10_ends_314 : decode cX10_ends 314 = .ok (.iadd, 1) := by decide +kernel
theorem dX10_ends_315 : decode cX10_ends 315 = .ok (.aload_n 0, 1) := by decide +kernel
theorem dX10_ends_316 : decode cX10_ends 316 = .ok (.getfield 283, 3) := by decide +kernel
theorem dX10_ends_319 : decode cX10_ends 319 = .ok (.iload 7, 2) := by decide +kernel
theorem dX10_ends_321 : decode cX10_ends 321 = .ok (.baload, 1) := by decide +kernel
theorem dX10_ends_322 : decode cX10_ends 322 = .ok (.bastore, 1) := by decide +kernel
theorem dX10_ends_323 : decode cX10_ends 323 = .ok (.iinc 7 1, 3) := by decide +kernel
theorem dX10_ends_326 : decode cX10_ends 326 = .ok (.goto (-30), 3) := by decide +kernel
theorem dX10_ends_329 : decode cX10_ends 329 = .ok (.iinc 5 1, 3) := by decide +kernel
theorem dX10_ends_332 : decode cX10_ends 332 = .ok (.goto (-119), 3) := by decide +kernel
theorem dX10_ends_335 : decode cX10_ends 335 = .ok (.iconst 0, 1) := by decide +kernel
theorem dX10_ends_336 : decode cX10_ends 336 = .ok (.istore 5, 2) := by decide +kernel
theorem dX10_ends_338 : decode cX10_ends 338 = .ok (.iload 5, 2) := by decide +kernel
theorem dX10_ends_340 : decode cX10_ends 340 = .ok (.iload_n 2, 1) := by decide +kernel
theorem dX10_ends_341 : decode cX10_ends 341 = .ok (.if_icmp .ge 110, 3) := by decide +kernel
theorem dX10_ends_344 : decode cX10_ends 344 = .ok (.iconst 0, 1) := by decide +kernel
theorem dX10_ends_345 : decode cX10_ends 345 = .ok (.istore 6, 2) := by decide +kernel
theorem dX10_ends_347 : decode cX10_ends 347 = .ok (.iload 6, 2) := by decide +kernel
theorem dX10_ends_349 : decode cX10_ends 349 = .ok (.bipush 98, 2) := by decide +kernel
theorem dX10_ends_351 : decode cX10_ends 351 = .ok (.if_icmp .ge 38, 3) := by decide +kernel
theorem dX10_ends_354 : decode cX10_ends 354 = .ok (.aload_n 0, 1) := by decide +kernel
theorem dX10_ends_355 : decode cX10_ends 355 = .ok (.getfield 537, 3) := by decide +kernel
theorem dX10_ends_358 : decode cX10_ends 358 = .ok (.sipush 146, 3) := by decide +kernel
theorem dX10_ends_361 : decode cX10_ends 361 = .ok (.iload 5, 2) := by decide +kernel
theorem dX10_ends_363 : decode cX10_ends 363 = .ok (.imul, 1) := by decide +kernel
theorem dX10_ends_364 : decode cX10_ends 364 = .ok (.iload 6, 2) := by decide +kernel
theorem dX10_ends_366 : decode cX10_ends 366 = .ok (.iadd, 1) := by decide +kernel
theorem dX10_ends_367 : decode cX10_ends 367 = .ok (.aload_n 0, 1) := by decide +kernel
theorem dX10_ends_368 : decode cX10_ends 368 = .ok (.getfield 522, 3) := by decide +kernel
theorem dX10_ends_371 : decode cX10_ends 371 = .ok (.bipush 98, 2) := by decide +kernel
theorem dX10_ends_373 : decode cX10_ends 373 = .ok (.iload_n 1, 1) := by decide +kernel
theorem dX10_ends_374 : decode cX10_ends 374 = .ok (.iload 5, 2) := by decide +kernel
theorem dX10_ends_376 : decode cX10_ends 376 = .ok (.iadd, 1) := by decide +kernel
theorem dX10_ends_377 : decode cX10_ends 377 = .ok (.imul, 1) := by decide +kernel
theorem dX10_ends_378 : decode cX10_ends 378 = .ok (.iload 6, 2) := by decide +kernel
theorem dX10_ends_380 : decode cX10_ends 380 = .ok (.iadd, 1) := by decide +kernel
theorem dX10_ends_381 : decode cX10_ends 381 = .ok (.baload, 1) := by decide +kernel
theorem dX10_ends_382 : decode cX10_ends 382 = .ok (.bastore, 1) := by decide +kernel
theorem dX10_ends_383 : decode cX10_ends 383 = .ok (.iinc 6 1, 3) := by decide +kernel
theorem dX10_ends_386 : decode cX10_ends 386 = .ok (.goto (-39), 3) := by decide +kernel
theorem dX10_ends_389 : decode cX10_ends 389 = .ok (.iconst 0, 1) := by decide +kernel
theorem dX10_ends_390 : decode cX10_ends 390 = .ok (.istore 6, 2) := by decide +kernel
theorem dX10_ends_392 : decode cX10_ends 392 = .ok (.iload 6, 2) := by decide +kernel
theorem dX10_ends_394 : decode cX10_ends 394 = .ok (.bipush 48, 2) := by decide +kernel
theorem dX10_ends_396 : decode cX10_ends 396 = .ok (.if_icmp .ge 39, 3) := by decide +kernel
theorem dX10_ends_399 : decode cX10_ends 399 = .ok (.aload_n 0, 1) := by decide +kernel
theorem dX10_ends_400 : decode cX10_ends 400 = .ok (.getfield 537, 3) := by decide +kernel
theorem dX10_ends_403 : decode cX10_ends 403 = .ok (.sipush 146, 3) := by decide +kernel
theorem dX10_ends_406 : decode cX10_ends 406 = .ok (.iload 5, 2) := by decide +kernel
theorem dX10_ends_408 : decode cX10_ends 408 = .ok (.imul, 1) := by decide +kernel
theorem dX10_ends_409 : decode cX10_ends 409 = .ok (.bipush 98, 2) := by decide +kernel
theorem dX10_ends_411 : decode cX10_ends 411 = .ok (.iadd, 1) := by decide +kernel
theorem dX10_ends_412 : decode cX10_ends 412 = .ok (.iload 6, 2) := by decide +kernel
theorem dX10_ends_414 : decode cX10_ends 414 = .ok (.iadd, 1) := by decide +kernel
theorem dX10_ends_415 : decode cX10_ends 415 = .ok (.aload_n 0, 1) := by decide +kernel
theorem dX10_ends_416 : decode cX10_ends 416 = .ok (.getfield 570, 3) := by decide +kernel
theorem dX10_ends_419 : decode cX10_ends 419 = .ok (.bipush 48, 2) := by decide +kernel
theorem dX10_ends_421 : decode cX10_ends 421 = .ok (.iload 5, 2) := by decide +kernel
theorem dX10_ends_423 : decode cX10_ends 423 = .ok (.imul, 1) := by decide +kernel
theorem dX10_ends_424 : decode cX10_ends 424 = .ok (.iload 6, 2) := by decide +kernel
theorem dX10_ends_426 : decode cX10_ends 426 = .ok (.iadd, 1) := by decide +kernel
theorem dX10_ends_427 : decode cX10_ends 427 = .ok (.baload, 1) := by decide +kernel
theorem dX10_ends_428 : decode cX10_ends 428 = .ok (.bastore, 1) := by decide +kernel
theorem dX10_ends_429 : decode cX10_ends 429 = .ok (.iinc 6 1, 3) := by decide +kernel
theorem dX10_ends_432 : decode cX10_ends 432 = .ok (.goto (-40), 3) := by decide +kernel
theorem dX10_ends_435 : decode cX10_ends 435 = .ok (.aload_n 0, 1) := by decide +kernel
theorem dX10_ends_436 : decode cX10_ends 436 = .ok (.getfield 519, 3) := by decide +kernel
theorem dX10_ends_439 : decode cX10_ends 439 = .ok (.iload_n 1, 1) := by decide +kernel
theorem dX10_ends_440 : decode cX10_ends 440 = .ok (.iload 5, 2) := by decide +kernel
theorem dX10_ends_442 : decode cX10_ends 442 = .ok (.iadd, 1) := by decide +kernel
theorem dX10_ends_443 : decode cX10_ends 443 = .ok (.iconst 0, 1) := by decide +kernel
theorem dX10_ends_444 : decode cX10_ends 444 = .ok (.bastore, 1) := by decide +kernel
theorem dX10_ends_445 : decode cX10_ends 445 = .ok (.iinc 5 1, 3) := by decide +kernel
theorem dX10_ends_448 : decode cX10_ends 448 = .ok (.goto (-110), 3) := by decide +kernel
theorem dX10_ends_451 : decode cX10_ends 451 = .ok (.aload_n 0, 1) := by decide +kernel
theorem dX10_ends_452 : decode cX10_ends 452 = .ok (.sipush 146, 3) := by decide +kernel
theorem dX10_ends_455 : decode cX10_ends 455 = .ok (.iload_n 2, 1) := by decide +kernel
theorem dX10_ends_456 : decode cX10_ends 456 = .ok (.imul, 1) := by decide +kernel
theorem dX10_ends_457 : decode cX10_ends 457 = .ok (.putfield 606, 3) := by decide +kernel
theorem dX10_ends_460 : decode cX10_ends 460 = .ok (.aload_n 0, 1) := by decide +kernel
theorem dX10_ends_461 : decode cX10_ends 461 = .ok (.getfield 606, 3) := by decide +kernel
theorem dX10_ends_464 : decode cX10_ends 464 = .ok (.ireturn, 1) := by decide +kernel
abbrev cX10_isProved : ByteArray := prog_15_method_60_code
def yX10_isProved : MethodName := ⟨RX10, "isProved", "(II)Z"⟩
theorem dX10_isProved_0 : decode cX10_isProved 0 = .ok (.aload_n 0, 1) := by decide +kernel
theorem dX10_isProved_1 : decode cX10_isProved 1 = .ok (.iload_n 2, 1) := by decide +kernel
theorem dX10_isProved_2 : decode cX10_isProved 2 = .ok (.aload_n 0, 1) := by decide +kernel
theorem dX10_isProved_3 : decode cX10_isProved 3 = .ok (.getfield 458, 3) := by decide +kernel
theorem dX10_isProved_6 : decode cX10_isProved 6 = .ok (.iload_n 1, 1) := by decide +kernel
theorem dX10_isProved_7 : decode cX10_isProved 7 = .ok (.aaload, 1) := by decide +kernel
theorem dX10_isProved_8 : decode cX10_isProved 8 = .ok (.invokevirtual 461, 3) := by decide +kernel
theorem dX10_isProved_11 : decode cX10_isProved 11 = .ok (.aload_n 0, 1) := by decide +kernel
theorem dX10_isProved_12 : decode cX10_isProved 12 = .ok (.aload_n 0, 1) := by decide +kernel
theorem dX10_isProved_13 : decode cX10_isProved 13 = .ok (.getfield 479, 3) := by decide +kernel
theorem dX10_isProved_16 : decode cX10_isProved 16 = .ok (.aload_n 0, 1) := by decide +kernel
theorem dX10_isProved_17 : decode cX10_isProved 17 = .ok (.getfield 465, 3) := by decide +kernel
theorem dX10_isProved_20 : decode cX10_isProved 20 = .ok (.aload_n 0, 1) := by decide +kernel
theorem dX10_isProved_21 : decode cX10_isProved 21 = .ok (.getfield 450, 3) := by decide +kernel
theorem dX10_isProved_24 : decode cX10_isProved 24 = .ok (.invokevirtual 446, 3) := by decide +kernel
theorem dX10_isProved_27 : decode cX10_isProved 27 = .ok (.aload_n 0, 1) := by decide +kernel
theorem dX10_isProved_28 : decode cX10_isProved 28 = .ok (.aload_n 0, 1) := by decide +kernel
theorem dX10_isProved_29 : decode cX10_isProved 29 = .ok (.getfield 468, 3) := by decide +kernel
theorem dX10_isProved_32 : decode cX10_isProved 32 = .ok (.aload_n 0, 1) := by decide +kernel
theorem dX10_isProved_33 : decode cX10_isProved 33 = .ok (.getfield 458, 3) := by decide +kernel
theorem dX10_isProved_36 : decode cX10_isProved 36 = .ok (.iload_n 1, 1) := by decide +kernel
theorem dX10_isProved_37 : decode cX10_isProved 37 = .ok (.aaload, 1) := by decide +kernel
theorem dX10_isProved_38 : decode cX10_isProved 38 = .ok (.aload_n 0, 1) := by decide +kernel
theorem dX10_isProved_39 : decode cX10_isProved 39 = .ok (.getfield 443, 3) := by decide +kernel
theorem dX10_isProved_42 : decode cX10_isProved 42 = .ok (.invokevirtual 446, 3) := by decide +kernel
theorem dX10_isProved_45 : decode cX10_isProved 45 = .ok (.aload_n 0, 1) := by decide +kernel
theorem dX10_isProved_46 : decode cX10_isProved 46 = .ok (.aload_n 0, 1) := by decide +kernel
theorem dX10_isProved_47 : decode cX10_isProved 47 = .ok (.getfield 450, 3) := by decide +kernel
theorem dX10_isProved_50 : decode cX10_isProved 50 = .ok (.aload_n 0, 1) := by decide +kernel
theorem dX10_isProved_51 : decode cX10_isProved 51 = .ok (.getfield 443, 3) := by decide +kernel
theorem dX10_isProved_54 : decode cX10_isProved 54 = .ok (.aload_n 0, 1) := by decide +kernel
theorem dX10_isProved_55 : decode cX10_isProved 55 = .ok (.getfield 450, 3) := by decide +kernel
theorem dX10_isProved_58 : decode cX10_isProved 58 = .ok (.invokevirtual 398, 3) := by decide +kernel
theorem dX10_isProved_61 : decode cX10_isProved 61 = .ok (.aload_n 0, 1) := by decide +kernel
theorem dX10_isProved_62 : decode cX10_isProved 62 = .ok (.aload_n 0, 1) := by decide +kernel
theorem dX10_isProved_63 : decode cX10_isProved 63 = .ok (.getfield 479, 3) := by decide +kernel
theorem dX10_isProved_66 : decode cX10_isProved 66 = .ok (.aload_n 0, 1) := by decide +kernel
theorem dX10_isProved_67 : decode cX10_isProved 67 = .ok (.getfield 417, 3) := by decide +kernel
theorem dX10_isProved_70 : decode cX10_isProved 70 = .ok (.aload_n 0, 1) := by decide +kernel
theorem dX10_isProved_71 : decode cX10_isProved 71 = .ok (.getfield 453, 3) := by decide +kernel
theorem dX10_isProved_74 : decode cX10_isProved 74 = .ok (.invokevirtual 446, 3) := by decide +kernel
theorem dX10_isProved_77 : decode cX10_isProved 77 = .ok (.aload_n 0, 1) := by decide +kernel
theorem dX10_isProved_78 : decode cX10_isProved 78 = .ok (.aload_n 0, 1) := by decide +kernel
theorem dX10_isProved_79 : decode cX10_isProved 79 = .ok (.getfield 468, 3) := by decide +kernel
theorem dX10_isProved_82 : decode cX10_isProved 82 = .ok (.aload_n 0, 1) := by decide +kernel
theorem dX10_isProved_83 : decode cX10_isProved 83 = .ok (.getfield 419, 3) := by decide +kernel
theorem dX10_isProved_86 : decode cX10_isProved 86 = .ok (.aload_n 0, 1) := by decide +kernel
theorem dX10_isProved_87 : decode cX10_isProved 87 = .ok (.getfield 443, 3) := by decide +kernel
theorem dX10_isProved_90 : decode cX10_isProved 90 = .ok (.invokevirtual 446, 3) := by decide +kernel
theorem dX10_isProved_93 : decode cX10_isProved 93 = .ok (.aload_n 0, 1) := by decide +kernel
theorem dX10_isProved_94 : decode cX10_isProved 94 = .ok (.aload_n 0, 1) := by decide +kernel
theorem dX10_isProved_95 : decode cX10_isProved 95 = .ok (.getfield 453, 3) := by decide +kernel
theorem dX10_isProved_98 : decode cX10_isProved 98 = .ok (.aload_n 0, 1) := by decide +kernel
theorem dX10_isProved_99 : decode cX10_isProved 99 = .ok (.getfield 443, 3) := by decide +kernel
theorem dX10_isProved_102 : decode cX10_isProved 102 = .ok (.aload_n 0, 1) := by decide +kernel
theorem dX10_isProved_103 : decode cX10_isProved 103 = .ok (.getfield 453, 3) := by decide +kernel
theorem dX10_isProved_106 : decode cX10_isProved 106 = .ok (.invokevirtual 398, 3) := by decide +kernel
theorem dX10_isProved_109 : decode cX10_isProved 109 = .ok (.aload_n 0, 1) := by decide +kernel
theorem dX10_isProved_110 : decode cX10_isProved 110 = .ok (.aload_n 0, 1) := by decide +kernel
theorem dX10_isProved_111 : decode cX10_isProved 111 = .ok (.getfield 458, 3) := by decide +kernel
theorem dX10_isProved_114 : decode cX10_isProved 114 = .ok (.iload_n 1, 1) := by decide +kernel
theorem dX10_isProved_115 : decode cX10_isProved 115 = .ok (.aaload, 1) := by decide +kernel
theorem dX10_isProved_116 : decode cX10_isProved 116 = .ok (.aload_n 0, 1) := by decide +kernel
theorem dX10_isProved_117 : decode cX10_isProved 117 = .ok (.getfield 482, 3) := by decide +kernel
theorem dX10_isProved_120 : decode cX10_isProved 120 = .ok (.invokevirtual 471, 3) := by decide +kernel
theorem dX10_isProved_123 : decode cX10_isProved 123 = .ok (.ifCond .eq 23, 3) := by decide +kernel
theorem dX10_isProved_126 : decode cX10_isProved 126 = .ok (.aload_n 0, 1) := by decide +kernel
theorem dX10_isProved_127 : decode cX10_isProved 127 = .ok (.getfield 482, 3) := by decide +kernel
theorem dX10_isProved_130 : decode cX10_isProved 130 = .ok (.aload_n 0, 1) := by decide +kernel
theorem dX10_isProved_131 : decode cX10_isProved 131 = .ok (.getfield 468, 3) := by decide +kernel
theorem dX10_isProved_134 : decode cX10_isProved 134 = .ok (.bipush 12, 2) := by decide +kernel
theorem dX10_isProved_136 : decode cX10_isProved 136 = .ok (.invokestatic 26, 3) := by decide +kernel
theorem dX10_isProved_139 : decode cX10_isProved 139 = .ok (.ifCond .ne 7, 3) := by decide +kernel
theorem dX10_isProved_142 : decode cX10_isProved 142 = .ok (.iconst 1, 1) := by decide +kernel
theorem dX10_isProved_143 : decode cX10_isProved 143 = .ok (.goto 4, 3) := by decide +kernel
theorem dX10_isProved_146 : decode cX10_isProved 146 = .ok (.iconst 0, 1) := by decide +kernel
theorem dX10_isProved_147 : decode cX10_isProved 147 = .ok (.ireturn, 1) := by decide +kernel
abbrev cX10_output : ByteArray := prog_15_method_96_code
def yX10_output : MethodName := ⟨RX10, "output", "([BILVeilMintModel$Spot;)V"⟩
theorem dX10_output_0 : decode cX10_output 0 = .ok (.aload_n 0, 1) := by decide +kernel
theorem dX10_output_1 : decode cX10_output 1 = .ok (.iconst 0, 1) := by decide +kernel
theorem dX10_output_2 : decode cX10_output 2 = .ok (.putfield 243, 3) := by decide +kernel
theorem dX10_output_5 : decode cX10_output 5 = .ok (.aload_n 0, 1) := by decide +kernel
theorem dX10_output_6 : decode cX10_output 6 = .ok (.bipush 98, 2) := by decide +kernel
theorem dX10_output_8 : decode cX10_output 8 = .ok (.invokevirtual 334, 3) := by decide +kernel
theorem dX10_output_11 : decode cX10_output 11 = .ok (.aload_n 0, 1) := by decide +kernel
theorem dX10_output_12 : decode cX10_output 12 = .ok (.aload_n 1, 1) := by decide +kernel
theorem dX10_output_13 : decode cX10_output 13 = .ok (.iload_n 2, 1) := by decide +kernel
theorem dX10_output_14 : decode cX10_output 14 = .ok (.bipush 98, 2) := by decide +kernel
theorem dX10_output_16 : decode cX10_output 16 = .ok (.invokevirtual 325, 3) := by decide +kernel
theorem dX10_output_19 : decode cX10_output 19 = .ok (.aload_n 0, 1) := by decide +kernel
theorem dX10_output_20 : decode cX10_output 20 = .ok (.bipush 49, 2) := by decide +kernel
theorem dX10_output_22 : decode cX10_output 22 = .ok (.invokevirtual 334, 3) := by decide +kernel
theorem dX10_output_25 : decode cX10_output 25 = .ok (.aload_n 3, 1) := by decide +kernel
theorem dX10_output_26 : decode cX10_output 26 = .ok (.aload_n 0, 1) := by decide +kernel
theorem dX10_output_27 : decode cX10_output 27 = .ok (.getfield 402, 3) := by decide +kernel
theorem dX10_output_30 : decode cX10_output 30 = .ok (.iconst 0, 1) := by decide +kernel
theorem dX10_output_31 : decode cX10_output 31 = .ok (.invokestatic 405, 3) := by decide +kernel
theorem dX10_output_34 : decode cX10_output 34 = .ok (.aload_n 0, 1) := by decide +kernel
theorem dX10_output_35 : decode cX10_output 35 = .ok (.aload_n 0, 1) := by decide +kernel
theorem dX10_output_36 : decode cX10_output 36 = .ok (.getfield 402, 3) := by decide +kernel
theorem dX10_output_39 : decode cX10_output 39 = .ok (.iconst 0, 1) := by decide +kernel
theorem dX10_output_40 : decode cX10_output 40 = .ok (.bipush 49, 2) := by decide +kernel
theorem dX10_output_42 : decode cX10_output 42 = .ok (.invokevirtual 325, 3) := by decide +kernel
theorem dX10_output_45 : decode cX10_output 45 = .ok (.aload_n 0, 1) := by decide +kernel
theorem dX10_output_46 : decode cX10_output 46 = .ok (.ldc_w 688, 3) := by decide +kernel
theorem dX10_output_49 : decode cX10_output 49 = .ok (.invokevirtual 262, 3) := by decide +kernel
theorem dX10_output_52 : decode cX10_output 52 = .ok (.aload_n 0, 1) := by decide +kernel
theorem dX10_output_53 : decode cX10_output 53 = .ok (.invokevirtual 340, 3) := by decide +kernel
theorem dX10_output_56 : decode cX10_output 56 = .ok (.return_, 1) := by decide +kernel
abbrev cX10_endsTwo : ByteArray := prog_15_method_98_code
def yX10_endsTwo : MethodName := ⟨RX10, "endsTwo", "(II)I"⟩
theorem dX10_endsTwo_0 : decode cX10_endsTwo 0 = .ok (.aload_n 0, 1) := by decide +kernel
theorem dX10_endsTwo_1 : decode cX10_endsTwo 1 = .ok (.getfield 503, 3) := by decide +kernel
theorem dX10_endsTwo_4 : decode cX10_endsTwo 4 = .ok (.iload_n 2, 1) := by decide +kernel
theorem dX10_endsTwo_5 : decode cX10_endsTwo 5 = .ok (.aaload, 1) := by decide +kernel
theorem dX10_endsTwo_6 : decode cX10_endsTwo 6 = .ok (.astore_n 3, 1) := by decide +kernel
theorem dX10_endsTwo_7 : decode cX10_endsTwo 7 = .ok (.aload_n 0, 1) := by decide +kernel
theorem dX10_endsTwo_8 : decode cX10_endsTwo 8 = .ok (.getfield 534, 3) := by decide +kernel
theorem dX10_endsTwo_11 : decode cX10_endsTwo 11 = .ok (.iconst 0, 1) := by decide +kernel
theorem dX10_endsTwo_12 : decode cX10_endsTwo 12 = .ok (.aload_n 0, 1) := by decide +kernel
theorem dX10_endsTwo_13 : decode cX10_endsTwo 13 = .ok (.getfield 510, 3) := by decide +kernel
theorem dX10_endsTwo_16 : decode cX10_endsTwo 16 = .ok (.iload_n 2, 1) := by decide +kernel
theorem dX10_endsTwo_17 : decode cX10_endsTwo 17 = .ok (.iaload, 1) := by decide +kernel
theorem dX10_endsTwo_18 : decode cX10_endsTwo 18 = .ok (.aload_n 0, 1) := by decide +kernel
theorem dX10_endsTwo_19 : decode cX10_endsTwo 19 = .ok (.getfield 549, 3) := by decide +kernel
theorem dX10_endsTwo_22 : decode cX10_endsTwo 22 = .ok (.aload_n 3, 1) := by decide +kernel
theorem dX10_endsTwo_23 : decode cX10_endsTwo 23 = .ok (.getfield 13, 3) := by decide +kernel
theorem dX10_endsTwo_26 : decode cX10_endsTwo 26 = .ok (.invokestatic 217, 3) := by decide +kernel
theorem dX10_endsTwo_29 : decode cX10_endsTwo 29 = .ok (.aload_n 0, 1) := by decide +kernel
theorem dX10_endsTwo_30 : decode cX10_endsTwo 30 = .ok (.getfield 549, 3) := by decide +kernel
theorem dX10_endsTwo_33 : decode cX10_endsTwo 33 = .ok (.aload_n 3, 1) := by decide +kernel
theorem dX10_endsTwo_34 : decode cX10_endsTwo 34 = .ok (.getfield 22, 3) := by decide +kernel
theorem dX10_endsTwo_37 : decode cX10_endsTwo 37 = .ok (.aload_n 3, 1) := by decide +kernel
theorem dX10_endsTwo_38 : decode cX10_endsTwo 38 = .ok (.getfield 13, 3) := by decide +kernel
theorem dX10_endsTwo_41 : decode cX10_endsTwo 41 = .ok (.invokestatic 26, 3) := by decide +kernel
theorem dX10_endsTwo_44 : decode cX10_endsTwo 44 = .ok (.ifCond .lt 6, 3) := by decide +kernel
theorem dX10_endsTwo_47 : decode cX10_endsTwo 47 = .ok (.bipush (-4), 2) := by decide +kernel
theorem dX10_endsTwo_49 : decode cX10_endsTwo 49 = .ok (.ireturn, 1) := by decide +kernel
theorem dX10_endsTwo_50 : decode cX10_endsTwo 50 = .ok (.aload_n 0, 1) := by decide +kernel
theorem dX10_endsTwo_51 : decode cX10_endsTwo 51 = .ok (.aload_n 3, 1) := by decide +kernel
theorem dX10_endsTwo_52 : decode cX10_endsTwo 52 = .ok (.aload_n 0, 1) := by decide +kernel
theorem dX10_endsTwo_53 : decode cX10_endsTwo 53 = .ok (.getfield 525, 3) := by decide +kernel
theorem dX10_endsTwo_56 : decode cX10_endsTwo 56 = .ok (.iload_n 1, 1) := by decide +kernel
theorem dX10_endsTwo_57 : decode cX10_endsTwo 57 = .ok (.aaload, 1) := by decide +kernel
theorem dX10_endsTwo_58 : decode cX10_endsTwo 58 = .ok (.aload_n 0, 1) := by decide +kernel
theorem dX10_endsTwo_59 : decode cX10_endsTwo 59 = .ok (.getfield 552, 3) := by decide +kernel
theorem dX10_endsTwo_62 : decode cX10_endsTwo 62 = .ok (.invokevirtual 161, 3) := by decide +kernel
theorem dX10_endsTwo_65 : decode cX10_endsTwo 65 = .ok (.istore 4, 2) := by decide +kernel
theorem dX10_endsTwo_67 : decode cX10_endsTwo 67 = .ok (.aload_n 0, 1) := by decide +kernel
theorem dX10_endsTwo_68 : decode cX10_endsTwo 68 = .ok (.aload_n 3, 1) := by decide +kernel
theorem dX10_endsTwo_69 : decode cX10_endsTwo 69 = .ok (.aload_n 0, 1) := by decide +kernel
theorem dX10_endsTwo_70 : decode cX10_endsTwo 70 = .ok (.getfield 549, 3) := by decide +kernel
theorem dX10_endsTwo_73 : decode cX10_endsTwo 73 = .ok (.aload_n 0, 1) := by decide +kernel
theorem dX10_endsTwo_74 : decode cX10_endsTwo 74 = .ok (.getfield 552, 3) := by decide +kernel
theorem dX10_endsTwo_77 : decode cX10_endsTwo 77 = .ok (.aload_n 0, 1) := by decide +kernel
theorem dX10_endsTwo_78 : decode cX10_endsTwo 78 = .ok (.getfield 549, 3) := by decide +kernel
theorem dX10_endsTwo_81 : decode cX10_endsTwo 81 = .ok (.invokevirtual 102, 3) := by decide +kernel
theorem dX10_endsTwo_84 : decode cX10_endsTwo 84 = .ok (.aload_n 0, 1) := by decide +kernel
theorem dX10_endsTwo_85 : decode cX10_endsTwo 85 = .ok (.iload_n 2, 1) := by decide +kernel
theorem dX10_endsTwo_86 : decode cX10_endsTwo 86 = .ok (.aload_n 0, 1) := by decide +kernel
theorem dX10_endsTwo_87 : decode cX10_endsTwo 87 = .ok (.getfield 522, 3) := by decide +kernel
theorem dX10_endsTwo_90 : decode cX10_endsTwo 90 = .ok (.bipush 98, 2) := by decide +kernel
theorem dX10_endsTwo_92 : decode cX10_endsTwo 92 = .ok (.iload_n 1, 1) := by decide +kernel
theorem dX10_endsTwo_93 : decode cX10_endsTwo 93 = .ok (.imul, 1) := by decide +kernel
theorem dX10_endsTwo_94 : decode cX10_endsTwo 94 = .ok (.aload_n 0, 1) := by decide +kernel
theorem dX10_endsTwo_95 : decode cX10_endsTwo 95 = .ok (.getfield 549, 3) := by decide +kernel
theorem dX10_endsTwo_98 : decode cX10_endsTwo 98 = .ok (.invokevirtual 697, 3) := by decide +kernel
theorem dX10_endsTwo_101 : decode cX10_endsTwo 101 = .ok (.ifCond .ne 6, 3) := by decide +kernel
theorem dX10_endsTwo_104 : decode cX10_endsTwo 104 = .ok (.bipush (-4), 2) := by decide +kernel
theorem dX10_endsTwo_106 : decode cX10_endsTwo 106 = .ok (.ireturn, 1) := by decide +kernel
theorem dX10_endsTwo_107 : decode cX10_endsTwo 107 = .ok (.iconst 0, 1) := by decide +kernel
theorem dX10_endsTwo_108 : decode cX10_endsTwo 108 = .ok (.istore 5, 2) := by decide +kernel
theorem dX10_endsTwo_110 : decode cX10_endsTwo 110 = .ok (.iload 5, 2) := by decide +kernel
theorem dX10_endsTwo_112 : decode cX10_endsTwo 112 = .ok (.bipush 98, 2) := by decide +kernel
theorem dX10_endsTwo_114 : decode cX10_endsTwo 114 = .ok (.if_icmp .ge 28, 3) := by decide +kernel
theorem dX10_endsTwo_117 : decode cX10_endsTwo 117 = .ok (.aload_n 0, 1) := by decide +kernel
theorem dX10_endsTwo_118 : decode cX10_endsTwo 118 = .ok (.getfield 537, 3) := by decide +kernel
theorem dX10_endsTwo_121 : decode cX10_endsTwo 121 = .ok (.iload 5, 2) := by decide +kernel
theorem dX10_endsTwo_123 : decode cX10_endsTwo 123 = .ok (.aload_n 0, 1) := by decide +kernel
theorem dX10_endsTwo_124 : decode cX10_endsTwo 124 = .ok (.getfield 522, 3) := by decide +kernel
theorem dX10_endsTwo_127 : decode cX10_endsTwo 127 = .ok (.bipush 98, 2) := by decide +kernel
theorem dX10_endsTwo_129 : decode cX10_endsTwo 129 = .ok (.iload_n 1, 1) := by decide +kernel
theorem dX10_endsTwo_130 : decode cX10_endsTwo 130 = .ok (.imul, 1) := by decide +kernel
theorem dX10_endsTwo_131 : decode cX10_endsTwo 131 = .ok (.iload 5, 2) := by decide +kernel
theorem dX10_endsTwo_133 : decode cX10_endsTwo 133 = .ok (.iadd, 1) := by decide +kernel
theorem dX10_endsTwo_134 : decode cX10_endsTwo 134 = .ok (.baload, 1) := by decide +kernel
theorem dX10_endsTwo_135 : decode cX10_endsTwo 135 = .ok (.bastore, 1) := by decide +kernel
theorem dX10_endsTwo_136 : decode cX10_endsTwo 136 = .ok (.iinc 5 1, 3) := by decide +kernel
theorem dX10_endsTwo_139 : decode cX10_endsTwo 139 = .ok (.goto (-29), 3) := by decide +kernel
theorem dX10_endsTwo_142 : decode cX10_endsTwo 142 = .ok (.aload_n 0, 1) := by decide +kernel
theorem dX10_endsTwo_143 : decode cX10_endsTwo 143 = .ok (.getfield 549, 3) := by decide +kernel
theorem dX10_endsTwo_146 : decode cX10_endsTwo 146 = .ok (.aload_n 0, 1) := by decide +kernel
theorem dX10_endsTwo_147 : decode cX10_endsTwo 147 = .ok (.getfield 537, 3) := by decide +kernel
theorem dX10_endsTwo_150 : decode cX10_endsTwo 150 = .ok (.bipush 98, 2) := by decide +kernel
theorem dX10_endsTwo_152 : decode cX10_endsTwo 152 = .ok (.aload_n 0, 1) := by decide +kernel
theorem dX10_endsTwo_153 : decode cX10_endsTwo 153 = .ok (.getfield 510, 3) := by decide +kernel
theorem dX10_endsTwo_156 : decode cX10_endsTwo 156 = .ok (.iload_n 2, 1) := by decide +kernel
theorem dX10_endsTwo_157 : decode cX10_endsTwo 157 = .ok (.iaload, 1) := by decide +kernel
theorem dX10_endsTwo_158 : decode cX10_endsTwo 158 = .ok (.invokestatic 232, 3) := by decide +kernel
theorem dX10_endsTwo_161 : decode cX10_endsTwo 161 = .ok (.aload_n 0, 1) := by decide +kernel
theorem dX10_endsTwo_162 : decode cX10_endsTwo 162 = .ok (.bipush 98, 2) := by decide +kernel
theorem dX10_endsTwo_164 : decode cX10_endsTwo 164 = .ok (.aload_n 0, 1) := by decide +kernel
theorem dX10_endsTwo_165 : decode cX10_endsTwo 165 = .ok (.getfield 510, 3) := by decide +kernel
theorem dX10_endsTwo_168 : decode cX10_endsTwo 168 = .ok (.iload_n 2, 1) := by decide +kernel
theorem dX10_endsTwo_169 : decode cX10_endsTwo 169 = .ok (.iaload, 1) := by decide +kernel
theorem dX10_endsTwo_170 : decode cX10_endsTwo 170 = .ok (.iadd, 1) := by decide +kernel
theorem dX10_endsTwo_171 : decode cX10_endsTwo 171 = .ok (.putfield 606, 3) := by decide +kernel
theorem dX10_endsTwo_174 : decode cX10_endsTwo 174 = .ok (.aload_n 0, 1) := by decide +kernel
theorem dX10_endsTwo_175 : decode cX10_endsTwo 175 = .ok (.getfield 519, 3) := by decide +kernel
theorem dX10_endsTwo_178 : decode cX10_endsTwo 178 = .ok (.iload_n 1, 1) := by decide +kernel
theorem dX10_endsTwo_179 : decode cX10_endsTwo 179 = .ok (.iconst 0, 1) := by decide +kernel
theorem dX10_endsTwo_180 : decode cX10_endsTwo 180 = .ok (.bastore, 1) := by decide +kernel
theorem dX10_endsTwo_181 : decode cX10_endsTwo 181 = .ok (.aload_n 0, 1) := by decide +kernel
theorem dX10_endsTwo_182 : decode cX10_endsTwo 182 = .ok (.getfield 606, 3) := by decide +kernel
theorem dX10_endsTwo_185 : decode cX10_endsTwo 185 = .ok (.ireturn, 1) := by decide +kernel
abbrev cX10_isSigned : ByteArray := prog_15_method_69_code
def yX10_isSigned : MethodName := ⟨RX10, "isSigned", "(I[BI[I)Z"⟩
theorem dX10_isSigned_0 : decode cX10_isSigned 0 = .ok (.aload_n 0, 1) := by decide +kernel
theorem dX10_isSigned_1 : decode cX10_isSigned 1 = .ok (.getfield 503, 3) := by decide +kernel
theorem dX10_isSigned_4 : decode cX10_isSigned 4 = .ok (.iload_n 1, 1) := by decide +kernel
theorem dX10_isSigned_5 : decode cX10_isSigned 5 = .ok (.aaload, 1) := by decide +kernel
theorem dX10_isSigned_6 : decode cX10_isSigned 6 = .ok (.astore 5, 2) := by decide +kernel
theorem dX10_isSigned_8 : decode cX10_isSigned 8 = .ok (.aload 4, 2) := by decide +kernel
theorem dX10_isSigned_10 : decode cX10_isSigned 10 = .ok (.aload 5, 2) := by decide +kernel
theorem dX10_isSigned_12 : decode cX10_isSigned 12 = .ok (.getfield 22, 3) := by decide +kernel
theorem dX10_isSigned_15 : decode cX10_isSigned 15 = .ok (.aload 5, 2) := by decide +kernel
theorem dX10_isSigned_17 : decode cX10_isSigned 17 = .ok (.getfield 13, 3) := by decide +kernel
theorem dX10_isSigned_20 : decode cX10_isSigned 20 = .ok (.invokestatic 26, 3) := by decide +kernel
theorem dX10_isSigned_23 : decode cX10_isSigned 23 = .ok (.ifCond .lt 5, 3) := by decide +kernel
theorem dX10_isSigned_26 : decode cX10_isSigned 26 = .ok (.iconst 0, 1) := by decide +kernel
theorem dX10_isSigned_27 : decode cX10_isSigned 27 = .ok (.ireturn, 1) := by decide +kernel
theorem dX10_isSigned_28 : decode cX10_isSigned 28 = .ok (.aload_n 0, 1) := by decide +kernel
theorem dX10_isSigned_29 : decode cX10_isSigned 29 = .ok (.iload_n 1, 1) := by decide +kernel
theorem dX10_isSigned_30 : decode cX10_isSigned 30 = .ok (.aload 4, 2) := by decide +kernel
theorem dX10_isSigned_32 : decode cX10_isSigned 32 = .ok (.aload_n 0, 1) := by decide +kernel
theorem dX10_isSigned_33 : decode cX10_isSigned 33 = .ok (.getfield 555, 3) := by decide +kernel
theorem dX10_isSigned_36 : decode cX10_isSigned 36 = .ok (.invokevirtual 602, 3) := by decide +kernel
theorem dX10_isSigned_39 : decode cX10_isSigned 39 = .ok (.aload 5, 2) := by decide +kernel
theorem dX10_isSigned_41 : decode cX10_isSigned 41 = .ok (.invokestatic 588, 3) := by decide +kernel
theorem dX10_isSigned_44 : decode cX10_isSigned 44 = .ok (.istore 6, 2) := by decide +kernel
theorem dX10_isSigned_46 : decode cX10_isSigned 46 = .ok (.iload 6, 2) := by decide +kernel
theorem dX10_isSigned_48 : decode cX10_isSigned 48 = .ok (.istore 7, 2) := by decide +kernel
theorem dX10_isSigned_50 : decode cX10_isSigned 50 = .ok (.iload 7, 2) := by decide +kernel
theorem dX10_isSigned_52 : decode cX10_isSigned 52 = .ok (.iconst 4, 1) := by decide +kernel
theorem dX10_isSigned_53 : decode cX10_isSigned 53 = .ok (.aload 5, 2) := by decide +kernel
theorem dX10_isSigned_55 : decode cX10_isSigned 55 = .ok (.getfield 13, 3) := by decide +kernel
theorem dX10_isSigned_58 : decode cX10_isSigned 58 = .ok (.imul, 1) := by decide +kernel
theorem dX10_isSigned_59 : decode cX10_isSigned 59 = .ok (.if_icmp .ge 35, 3) := by decide +kernel
theorem dX10_isSigned_62 : decode cX10_isSigned 62 = .ok (.aload_n 0, 1) := by decide +kernel
theorem dX10_isSigned_63 : decode cX10_isSigned 63 = .ok (.getfield 555, 3) := by decide +kernel
theorem dX10_isSigned_66 : decode cX10_isSigned 66 = .ok (.iload 7, 2) := by decide +kernel
theorem dX10_isSigned_68 : decode cX10_isSigned 68 = .ok (.iconst 4, 1) := by decide +kernel
theorem dX10_isSigned_69 : decode cX10_isSigned 69 = .ok (.idiv, 1) := by decide +kernel
theorem dX10_isSigned_70 : decode cX10_isSigned 70 = .ok (.iaload, 1) := by decide +kernel
theorem dX10_isSigned_71 : decode cX10_isSigned 71 = .ok (.bipush 8, 2) := by decide +kernel
theorem dX10_isSigned_73 : decode cX10_isSigned 73 = .ok (.iload 7, 2) := by decide +kernel
theorem dX10_isSigned_75 : decode cX10_isSigned 75 = .ok (.iconst 4, 1) := by decide +kernel
theorem dX10_isSigned_76 : decode cX10_isSigned 76 = .ok (.irem, 1) := by decide +kernel
theorem dX10_isSigned_77 : decode cX10_isSigned 77 = .ok (.imul, 1) := by decide +kernel
theorem dX10_isSigned_78 : decode cX10_isSigned 78 = .ok (.iushr, 1) := by decide +kernel
theorem dX10_isSigned_79 : decode cX10_isSigned 79 = .ok (.sipush 255, 3) := by decide +kernel
theorem dX10_isSigned_82 : decode cX10_isSigned 82 = .ok (.iand, 1) := by decide +kernel
theorem dX10_isSigned_83 : decode cX10_isSigned 83 = .ok (.ifCond .eq 5, 3) := by decide +kernel
theorem dX10_isSigned_86 : decode cX10_isSigned 86 = .ok (.iconst 0, 1) := by decide +kernel
theorem dX10_isSigned_87 : decode cX10_isSigned 87 = .ok (.ireturn, 1) := by decide +kernel
theorem dX10_isSigned_88 : decode cX10_isSigned 88 = .ok (.iinc 7 1, 3) := by decide +kernel
theorem dX10_isSigned_91 : decode cX10_isSigned 91 = .ok (.goto (-41), 3) := by decide +kernel
theorem dX10_isSigned_94 : decode cX10_isSigned 94 = .ok (.aload_n 0, 1) := by decide +kernel
theorem dX10_isSigned_95 : decode cX10_isSigned 95 = .ok (.getfield 555, 3) := by decide +kernel
theorem dX10_isSigned_98 : decode cX10_isSigned 98 = .ok (.aload_n 0, 1) := by decide +kernel
theorem dX10_isSigned_99 : decode cX10_isSigned 99 = .ok (.getfield 540, 3) := by decide +kernel
theorem dX10_isSigned_102 : decode cX10_isSigned 102 = .ok (.iconst 0, 1) := by decide +kernel
theorem dX10_isSigned_103 : decode cX10_isSigned 103 = .ok (.iload 6, 2) := by decide +kernel
theorem dX10_isSigned_105 : decode cX10_isSigned 105 = .ok (.invokestatic 232, 3) := by decide +kernel
theorem dX10_isSigned_108 : decode cX10_isSigned 108 = .ok (.iload 6, 2) := by decide +kernel
theorem dX10_isSigned_110 : decode cX10_isSigned 110 = .ok (.bipush 49, 2) := by decide +kernel
theorem dX10_isSigned_112 : decode cX10_isSigned 112 = .ok (.isub, 1) := by decide +kernel
theorem dX10_isSigned_113 : decode cX10_isSigned 113 = .ok (.istore 7, 2) := by decide +kernel
theorem dX10_isSigned_115 : decode cX10_isSigned 115 = .ok (.aload_n 0, 1) := by decide +kernel
theorem dX10_isSigned_116 : decode cX10_isSigned 116 = .ok (.getfield 513, 3) := by decide +kernel
theorem dX10_isSigned_119 : decode cX10_isSigned 119 = .ok (.iload_n 1, 1) := by decide +kernel
theorem dX10_isSigned_120 : decode cX10_isSigned 120 = .ok (.iaload, 1) := by decide +kernel
theorem dX10_isSigned_121 : decode cX10_isSigned 121 = .ok (.istore 8, 2) := by decide +kernel
theorem dX10_isSigned_123 : decode cX10_isSigned 123 = .ok (.aload_n 0, 1) := by decide +kernel
theorem dX10_isSigned_124 : decode cX10_isSigned 124 = .ok (.getfield 540, 3) := by decide +kernel
theorem dX10_isSigned_127 : decode cX10_isSigned 127 = .ok (.iload 6, 2) := by decide +kernel
theorem dX10_isSigned_129 : decode cX10_isSigned 129 = .ok (.iconst 1, 1) := by decide +kernel
theorem dX10_isSigned_130 : decode cX10_isSigned 130 = .ok (.isub, 1) := by decide +kernel
theorem dX10_isSigned_131 : decode cX10_isSigned 131 = .ok (.baload, 1) := by decide +kernel
theorem dX10_isSigned_132 : decode cX10_isSigned 132 = .ok (.bipush (-68), 2) := by decide +kernel
theorem dX10_isSigned_134 : decode cX10_isSigned 134 = .ok (.if_icmp .ne 24, 3) := by decide +kernel
theorem dX10_isSigned_137 : decode cX10_isSigned 137 = .ok (.aload_n 0, 1) := by decide +kernel
theorem dX10_isSigned_138 : decode cX10_isSigned 138 = .ok (.getfield 540, 3) := by decide +kernel
theorem dX10_isSigned_141 : decode cX10_isSigned 141 = .ok (.iconst 0, 1) := by decide +kernel
theorem dX10_isSigned_142 : decode cX10_isSigned 142 = .ok (.baload, 1) := by decide +kernel
theorem dX10_isSigned_143 : decode cX10_isSigned 143 = .ok (.aload 5, 2) := by decide +kernel
theorem dX10_isSigned_145 : decode cX10_isSigned 145 = .ok (.invokestatic 599, 3) := by decide +kernel
theorem dX10_isSigned_148 : decode cX10_isSigned 148 = .ok (.iconst (-1), 1) := by decide +kernel
theorem dX10_isSigned_149 : decode cX10_isSigned 149 = .ok (.ixor, 1) := by decide +kernel
theorem dX10_isSigned_150 : decode cX10_isSigned 150 = .ok (.iand, 1) := by decide +kernel
theorem dX10_isSigned_151 : decode cX10_isSigned 151 = .ok (.sipush 255, 3) := by decide +kernel
theorem dX10_isSigned_154 : decode cX10_isSigned 154 = .ok (.iand, 1) := by decide +kernel
theorem dX10_isSigned_155 : decode cX10_isSigned 155 = .ok (.ifCond .eq 5, 3) := by decide +kernel
theorem dX10_isSigned_158 : decode cX10_isSigned 158 = .ok (.iconst 0, 1) := by decide +kernel
theorem dX10_isSigned_159 : decode cX10_isSigned 159 = .ok (.ireturn, 1) := by decide +kernel
theorem dX10_isSigned_160 : decode cX10_isSigned 160 = .ok (.aload_n 0, 1) := by decide +kernel
theorem dX10_isSigned_161 : decode cX10_isSigned 161 = .ok (.aload_n 0, 1) := by decide +kernel
theorem dX10_isSigned_162 : decode cX10_isSigned 162 = .ok (.getfield 540, 3) := by decide +kernel
theorem dX10_isSigned_165 : decode cX10_isSigned 165 = .ok (.iload 7, 2) := by decide +kernel
theorem dX10_isSigned_167 : decode cX10_isSigned 167 = .ok (.iload 7, 2) := by decide +kernel
theorem dX10_isSigned_169 : decode cX10_isSigned 169 = .ok (.invokevirtual 596, 3) := by decide +kernel
theorem dX10_isSigned_172 : decode cX10_isSigned 172 = .ok (.iconst 0, 1) := by decide +kernel
theorem dX10_isSigned_173 : decode cX10_isSigned 173 = .ok (.istore 9, 2) := by decide +kernel
theorem dX10_isSigned_175 : decode cX10_isSigned 175 = .ok (.iload 9, 2) := by decide +kernel
theorem dX10_isSigned_177 : decode cX10_isSigned 177 = .ok (.iload 7, 2) := by decide +kernel
theorem dX10_isSigned_179 : decode cX10_isSigned 179 = .ok (.if_icmp .ge 27, 3) := by decide +kernel
theorem dX10_isSigned_182 : decode cX10_isSigned 182 = .ok (.aload_n 0, 1) := by decide +kernel
theorem dX10_isSigned_183 : decode cX10_isSigned 183 = .ok (.getfield 540, 3) := by decide +kernel
theorem dX10_isSigned_186 : decode cX10_isSigned 186 = .ok (.iload 9, 2) := by decide +kernel
theorem dX10_isSigned_188 : decode cX10_isSigned 188 = .ok (.dup2, 1) := by decide +kernel
theorem dX10_isSigned_189 : decode cX10_isSigned 189 = .ok (.baload, 1) := by decide +kernel
theorem dX10_isSigned_190 : decode cX10_isSigned 190 = .ok (.aload_n 0, 1) := by decide +kernel
theorem dX10_isSigned_191 : decode cX10_isSigned 191 = .ok (.getfield 543, 3) := by decide +kernel
theorem dX10_isSigned_194 : decode cX10_isSigned 194 = .ok (.iload 9, 2) := by decide +kernel
theorem dX10_isSigned_196 : decode cX10_isSigned 196 = .ok (.baload, 1) := by decide +kernel
theorem dX10_isSigned_197 : decode cX10_isSigned 197 = .ok (.ixor, 1) := by decide +kernel
theorem dX10_isSigned_198 : decode cX10_isSigned 198 = .ok (.i2b, 1) := by decide +kernel
theorem dX10_isSigned_199 : decode cX10_isSigned 199 = .ok (.bastore, 1) := by decide +kernel
theorem dX10_isSigned_200 : decode cX10_isSigned 200 = .ok (.iinc 9 1, 3) := by decide +kernel
theorem dX10_isSigned_203 : decode cX10_isSigned 203 = .ok (.goto (-28), 3) := by decide +kernel
theorem dX10_isSigned_206 : decode cX10_isSigned 206 = .ok (.aload_n 0, 1) := by decide +kernel
theorem dX10_isSigned_207 : decode cX10_isSigned 207 = .ok (.getfield 540, 3) := by decide +kernel
theorem dX10_isSigned_210 : decode cX10_isSigned 210 = .ok (.iconst 0, 1) := by decide +kernel
theorem dX10_isSigned_211 : decode cX10_isSigned 211 = .ok (.dup2, 1) := by decide +kernel
theorem dX10_isSigned_212 : decode cX10_isSigned 212 = .ok (.baload, 1) := by decide +kernel
theorem dX10_isSigned_213 : decode cX10_isSigned 213 = .ok (.aload 5, 2) := by decide +kernel
theorem dX10_isSigned_215 : decode cX10_isSigned 215 = .ok (.invokestatic 599, 3) := by decide +kernel
theorem dX10_isSigned_218 : decode cX10_isSigned 218 = .ok (.i2b, 1) := by decide +kernel
theorem dX10_isSigned_219 : decode cX10_isSigned 219 = .ok (.iand, 1) := by decide +kernel
theorem dX10_isSigned_220 : decode cX10_isSigned 220 = .ok (.i2b, 1) := by decide +kernel
theorem dX10_isSigned_221 : decode cX10_isSigned 221 = .ok (.bastore, 1) := by decide +kernel
theorem dX10_isSigned_222 : decode cX10_isSigned 222 = .ok (.iconst 0, 1) := by decide +kernel
theorem dX10_isSigned_223 : decode cX10_isSigned 223 = .ok (.istore 9, 2) := by decide +kernel
theorem dX10_isSigned_225 : decode cX10_isSigned 225 = .ok (.iload 9, 2) := by decide +kernel
theorem dX10_isSigned_227 : decode cX10_isSigned 227 = .ok (.iload 7, 2) := by decide +kernel
theorem dX10_isSigned_229 : decode cX10_isSigned 229 = .ok (.iload 8, 2) := by decide +kernel
theorem dX10_isSigned_231 : decode cX10_isSigned 231 = .ok (.isub, 1) := by decide +kernel
theorem dX10_isSigned_232 : decode cX10_isSigned 232 = .ok (.iconst 1, 1) := by decide +kernel
theorem dX10_isSigned_233 : decode cX10_isSigned 233 = .ok (.isub, 1) := by decide +kernel
theorem dX10_isSigned_234 : decode cX10_isSigned 234 = .ok (.if_icmp .ge 21, 3) := by decide +kernel
theorem dX10_isSigned_237 : decode cX10_isSigned 237 = .ok (.aload_n 0, 1) := by decide +kernel
theorem dX10_isSigned_238 : decode cX10_isSigned 238 = .ok (.getfield 540, 3) := by decide +kernel
theorem dX10_isSigned_241 : decode cX10_isSigned 241 = .ok (.iload 9, 2) := by decide +kernel
theorem dX10_isSigned_243 : decode cX10_isSigned 243 = .ok (.baload, 1) := by decide +kernel
theorem dX10_isSigned_244 : decode cX10_isSigned 244 = .ok (.ifCond .eq 5, 3) := by decide +kernel
theorem dX10_isSigned_247 : decode cX10_isSigned 247 = .ok (.iconst 0, 1) := by decide +kernel
theorem dX10_isSigned_248 : decode cX10_isSigned 248 = .ok (.ireturn, 1) := by decide +kernel
theorem dX10_isSigned_249 : decode cX10_isSigned 249 = .ok (.iinc 9 1, 3) := by decide +kernel
theorem dX10_isSigned_252 : decode cX10_isSigned 252 = .ok (.goto (-27), 3) := by decide +kernel
theorem dX10_isSigned_255 : decode cX10_isSigned 255 = .ok (.aload_n 0, 1) := by decide +kernel
theorem dX10_isSigned_256 : decode cX10_isSigned 256 = .ok (.getfield 540, 3) := by decide +kernel
theorem dX10_isSigned_259 : decode cX10_isSigned 259 = .ok (.iload 7, 2) := by decide +kernel
theorem dX10_isSigned_261 : decode cX10_isSigned 261 = .ok (.iload 8, 2) := by decide +kernel
theorem dX10_isSigned_263 : decode cX10_isSigned 263 = .ok (.isub, 1) := by decide +kernel
theorem dX10_isSigned_264 : decode cX10_isSigned 264 = .ok (.iconst 1, 1) := by decide +kernel
theorem dX10_isSigned_265 : decode cX10_isSigned 265 = .ok (.isub, 1) := by decide +kernel
theorem dX10_isSigned_266 : decode cX10_isSigned 266 = .ok (.baload, 1) := by decide +kernel
theorem dX10_isSigned_267 : decode cX10_isSigned 267 = .ok (.iconst 1, 1) := by decide +kernel
theorem dX10_isSigned_268 : decode cX10_isSigned 268 = .ok (.if_icmp .eq 5, 3) := by decide +kernel
theorem dX10_isSigned_271 : decode cX10_isSigned 271 = .ok (.iconst 0, 1) := by decide +kernel
theorem dX10_isSigned_272 : decode cX10_isSigned 272 = .ok (.ireturn, 1) := by decide +kernel
theorem dX10_isSigned_273 : decode cX10_isSigned 273 = .ok (.aload_n 0, 1) := by decide +kernel
theorem dX10_isSigned_274 : decode cX10_isSigned 274 = .ok (.aload_n 2, 1) := by decide +kernel
theorem dX10_isSigned_275 : decode cX10_isSigned 275 = .ok (.iload_n 3, 1) := by decide +kernel
theorem dX10_isSigned_276 : decode cX10_isSigned 276 = .ok (.aload_n 0, 1) := by decide +kernel
theorem dX10_isSigned_277 : decode cX10_isSigned 277 = .ok (.getfield 540, 3) := by decide +kernel
theorem dX10_isSigned_280 : decode cX10_isSigned 280 = .ok (.iload 7, 2) := by decide +kernel
theorem dX10_isSigned_282 : decode cX10_isSigned 282 = .ok (.iload 8, 2) := by decide +kernel
theorem dX10_isSigned_284 : decode cX10_isSigned 284 = .ok (.isub, 1) := by decide +kernel
theorem dX10_isSigned_285 : decode cX10_isSigned 285 = .ok (.iload 8, 2) := by decide +kernel
theorem dX10_isSigned_287 : decode cX10_isSigned 287 = .ok (.invokevirtual 592, 3) := by decide +kernel
theorem dX10_isSigned_290 : decode cX10_isSigned 290 = .ok (.iconst 1, 1) := by decide +kernel
theorem dX10_isSigned_291 : decode cX10_isSigned 291 = .ok (.istore 9, 2) := by decide +kernel
theorem dX10_isSigned_293 : decode cX10_isSigned 293 = .ok (.iconst 0, 1) := by decide +kernel
theorem dX10_isSigned_294 : decode cX10_isSigned 294 = .ok (.istore 10, 2) := by decide +kernel
theorem dX10_isSigned_296 : decode cX10_isSigned 296 = .ok (.iload 10, 2) := by decide +kernel
theorem dX10_isSigned_298 : decode cX10_isSigned 298 = .ok (.bipush 48, 2) := by decide +kernel
theorem dX10_isSigned_300 : decode cX10_isSigned 300 = .ok (.if_icmp .ge 41, 3) := by decide +kernel
theorem dX10_isSigned_303 : decode cX10_isSigned 303 = .ok (.iload 9, 2) := by decide +kernel
theorem dX10_isSigned_305 : decode cX10_isSigned 305 = .ok (.ifCond .eq 27, 3) := by decide +kernel
theorem dX10_isSigned_308 : decode cX10_isSigned 308 = .ok (.aload_n 0, 1) := by decide +kernel
theorem dX10_isSigned_309 : decode cX10_isSigned 309 = .ok (.getfield 546, 3) := by decide +kernel
theorem dX10_isSigned_312 : decode cX10_isSigned 312 = .ok (.iload 10, 2) := by decide +kernel
theorem dX10_isSigned_314 : decode cX10_isSigned 314 = .ok (.baload, 1) := by decide +kernel
theorem dX10_isSigned_315 : decode cX10_isSigned 315 = .ok (.aload_n 0, 1) := by decide +kernel
theorem dX10_isSigned_316 : decode cX10_isSigned 316 = .ok (.getfield 540, 3) := by decide +kernel
theorem dX10_isSigned_319 : decode cX10_isSigned 319 = .ok (.iload 7, 2) := by decide +kernel
theorem dX10_isSigned_321 : decode cX10_isSigned 321 = .ok (.iload 10, 2) := by decide +kernel
theorem dX10_isSigned_323 : decode cX10_isSigned 323 = .ok (.iadd, 1) := by decide +kernel
theorem dX10_isSigned_324 : decode cX10_isSigned 324 = .ok (.baload, 1) := by decide +kernel
theorem dX10_isSigned_325 : decode cX10_isSigned 325 = .ok (.if_icmp .ne 7, 3) := by decide +kernel
theorem dX10_isSigned_328 : decode cX10_isSigned 328 = .ok (.iconst 1, 1) := by decide +kernel
theorem dX10_isSigned_329 : decode cX10_isSigned 329 = .ok (.goto 4, 3) := by decide +kernel
theorem dX10_isSigned_332 : decode cX10_isSigned 332 = .ok (.iconst 0, 1) := by decide +kernel
theorem dX10_isSigned_333 : decode cX10_isSigned 333 = .ok (.istore 9, 2) := by decide +kernel
theorem dX10_isSigned_335 : decode cX10_isSigned 335 = .ok (.iinc 10 1, 3) := by decide +kernel
theorem dX10_isSigned_338 : decode cX10_isSigned 338 = .ok (.goto (-42), 3) := by decide +kernel
theorem dX10_isSigned_341 : decode cX10_isSigned 341 = .ok (.iload 9, 2) := by decide +kernel
theorem dX10_isSigned_343 : decode cX10_isSigned 343 = .ok (.ireturn, 1) := by decide +kernel
abbrev cX10_finalizeMany : ByteArray := prog_15_method_95_code
def yX10_finalizeMany : MethodName := ⟨RX10, "finalizeMany", "(II)I"⟩
theorem dX10_finalizeMany_0 : decode cX10_finalizeMany 0 = .ok (.aload_n 0, 1) := by decide +kernel
theorem dX10_finalizeMany_1 : decode cX10_finalizeMany 1 = .ok (.invokevirtual 612, 3) := by decide +kernel
theorem dX10_finalizeMany_4 : decode cX10_finalizeMany 4 = .ok (.istore_n 3, 1) := by decide +kernel
theorem dX10_finalizeMany_5 : decode cX10_finalizeMany 5 = .ok (.iload_n 2, 1) := by decide +kernel
theorem dX10_finalizeMany_6 : decode cX10_finalizeMany 6 = .ok (.iconst 1, 1) := by decide +kernel
theorem dX10_finalizeMany_7 : decode cX10_finalizeMany 7 = .ok (.if_icmp .lt 13, 3) := by decide +kernel
theorem dX10_finalizeMany_10 : decode cX10_finalizeMany 10 = .ok (.iload_n 2, 1) := by decide +kernel
theorem dX10_finalizeMany_11 : decode cX10_finalizeMany 11 = .ok (.bipush 8, 2) := by decide +kernel
theorem dX10_finalizeMany_13 : decode cX10_finalizeMany 13 = .ok (.if_icmp .gt 7, 3) := by decide +kernel
theorem dX10_finalizeMany_16 : decode cX10_finalizeMany 16 = .ok (.iconst 1, 1) := by decide +kernel
theorem dX10_finalizeMany_17 : decode cX10_finalizeMany 17 = .ok (.goto 4, 3) := by decide +kernel
theorem dX10_finalizeMany_20 : decode cX10_finalizeMany 20 = .ok (.iconst 0, 1) := by decide +kernel
theorem dX10_finalizeMany_21 : decode cX10_finalizeMany 21 = .ok (.istore 4, 2) := by decide +kernel
theorem dX10_finalizeMany_23 : decode cX10_finalizeMany 23 = .ok (.iconst 0, 1) := by decide +kernel
theorem dX10_finalizeMany_24 : decode cX10_finalizeMany 24 = .ok (.istore 5, 2) := by decide +kernel
theorem dX10_finalizeMany_26 : decode cX10_finalizeMany 26 = .ok (.iload 4, 2) := by decide +kernel
theorem dX10_finalizeMany_28 : decode cX10_finalizeMany 28 = .ok (.ifCond .eq 43, 3) := by decide +kernel
theorem dX10_finalizeMany_31 : decode cX10_finalizeMany 31 = .ok (.iload 5, 2) := by decide +kernel
theorem dX10_finalizeMany_33 : decode cX10_finalizeMany 33 = .ok (.iload_n 2, 1) := by decide +kernel
theorem dX10_finalizeMany_34 : decode cX10_finalizeMany 34 = .ok (.if_icmp .ge 37, 3) := by decide +kernel
theorem dX10_finalizeMany_37 : decode cX10_finalizeMany 37 = .ok (.iload_n 1, 1) := by decide +kernel
theorem dX10_finalizeMany_38 : decode cX10_finalizeMany 38 = .ok (.ifCond .lt 24, 3) := by decide +kernel
theorem dX10_finalizeMany_41 : decode cX10_finalizeMany 41 = .ok (.iload_n 1, 1) := by decide +kernel
theorem dX10_finalizeMany_42 : decode cX10_finalizeMany 42 = .ok (.bipush 60, 2) := by decide +kernel
theorem dX10_finalizeMany_44 : decode cX10_finalizeMany 44 = .ok (.if_icmp .ge 18, 3) := by decide +kernel
theorem dX10_finalizeMany_47 : decode cX10_finalizeMany 47 = .ok (.aload_n 0, 1) := by decide +kernel
theorem dX10_finalizeMany_48 : decode cX10_finalizeMany 48 = .ok (.iload_n 1, 1) := by decide +kernel
theorem dX10_finalizeMany_49 : decode cX10_finalizeMany 49 = .ok (.iload 5, 2) := by decide +kernel
theorem dX10_finalizeMany_51 : decode cX10_finalizeMany 51 = .ok (.iadd, 1) := by decide +kernel
theorem dX10_finalizeMany_52 : decode cX10_finalizeMany 52 = .ok (.invokevirtual 678, 3) := by decide +kernel
theorem dX10_finalizeMany_55 : decode cX10_finalizeMany 55 = .ok (.ifCond .eq 7, 3) := by decide +kernel
theorem dX10_finalizeMany_58 : decode cX10_finalizeMany 58 = .ok (.iconst 1, 1) := by decide +kernel
theorem dX10_finalizeMany_59 : decode cX10_finalizeMany 59 = .ok (.goto 4, 3) := by decide +kernel
theorem dX10_finalizeMany_62 : decode cX10_finalizeMany 62 = .ok (.iconst 0, 1) := by decide +kernel
theorem dX10_finalizeMany_63 : decode cX10_finalizeMany 63 = .ok (.istore 4, 2) := by decide +kernel
theorem dX10_finalizeMany_65 : decode cX10_finalizeMany 65 = .ok (.iinc 5 1, 3) := by decide +kernel
theorem dX10_finalizeMany_68 : decode cX10_finalizeMany 68 = .ok (.goto (-42), 3) := by decide +kernel
theorem dX10_finalizeMany_71 : decode cX10_finalizeMany 71 = .ok (.iload 4, 2) := by decide +kernel
theorem dX10_finalizeMany_73 : decode cX10_finalizeMany 73 = .ok (.ifCond .ne 10, 3) := by decide +kernel
theorem dX10_finalizeMany_76 : decode cX10_finalizeMany 76 = .ok (.aload_n 0, 1) := by decide +kernel
theorem dX10_finalizeMany_77 : decode cX10_finalizeMany 77 = .ok (.iconst 1, 1) := by decide +kernel
theorem dX10_finalizeMany_78 : decode cX10_finalizeMany 78 = .ok (.putfield 1, 3) := by decide +kernel
theorem dX10_finalizeMany_81 : decode cX10_finalizeMany 81 = .ok (.iconst 0, 1) := by decide +kernel
theorem dX10_finalizeMany_82 : decode cX10_finalizeMany 82 = .ok (.ireturn, 1) := by decide +kernel
theorem dX10_finalizeMany_83 : decode cX10_finalizeMany 83 = .ok (.iconst 0, 1) := by decide +kernel
theorem dX10_finalizeMany_84 : decode cX10_finalizeMany 84 = .ok (.istore 5, 2) := by decide +kernel
theorem dX10_finalizeMany_86 : decode cX10_finalizeMany 86 = .ok (.iload 5, 2) := by decide +kernel
theorem dX10_finalizeMany_88 : decode cX10_finalizeMany 88 = .ok (.iload_n 2, 1) := by decide +kernel
theorem dX10_finalizeMany_89 : decode cX10_finalizeMany 89 = .ok (.if_icmp .ge 30, 3) := by decide +kernel
theorem dX10_finalizeMany_92 : decode cX10_finalizeMany 92 = .ok (.aload_n 0, 1) := by decide +kernel
theorem dX10_finalizeMany_93 : decode cX10_finalizeMany 93 = .ok (.getfield 516, 3) := by decide +kernel
theorem dX10_finalizeMany_96 : decode cX10_finalizeMany 96 = .ok (.iload_n 1, 1) := by decide +kernel
theorem dX10_finalizeMany_97 : decode cX10_finalizeMany 97 = .ok (.iload 5, 2) := by decide +kernel
theorem dX10_finalizeMany_99 : decode cX10_finalizeMany 99 = .ok (.iadd, 1) := by decide +kernel
theorem dX10_finalizeMany_100 : decode cX10_finalizeMany 100 = .ok (.iaload, 1) := by decide +kernel
theorem dX10_finalizeMany_101 : decode cX10_finalizeMany 101 = .ok (.aload_n 0, 1) := by decide +kernel
theorem dX10_finalizeMany_102 : decode cX10_finalizeMany 102 = .ok (.getfield 516, 3) := by decide +kernel
theorem dX10_finalizeMany_105 : decode cX10_finalizeMany 105 = .ok (.iload_n 1, 1) := by decide +kernel
theorem dX10_finalizeMany_106 : decode cX10_finalizeMany 106 = .ok (.iaload, 1) := by decide +kernel
theorem dX10_finalizeMany_107 : decode cX10_finalizeMany 107 = .ok (.if_icmp .eq 6, 3) := by decide +kernel
theorem dX10_finalizeMany_110 : decode cX10_finalizeMany 110 = .ok (.bipush (-2), 2) := by decide +kernel
theorem dX10_finalizeMany_112 : decode cX10_finalizeMany 112 = .ok (.ireturn, 1) := by decide +kernel
theorem dX10_finalizeMany_113 : decode cX10_finalizeMany 113 = .ok (.iinc 5 1, 3) := by decide +kernel
theorem dX10_finalizeMany_116 : decode cX10_finalizeMany 116 = .ok (.goto (-30), 3) := by decide +kernel
theorem dX10_finalizeMany_119 : decode cX10_finalizeMany 119 = .ok (.aload_n 0, 1) := by decide +kernel
theorem dX10_finalizeMany_120 : decode cX10_finalizeMany 120 = .ok (.getfield 492, 3) := by decide +kernel
theorem dX10_finalizeMany_123 : decode cX10_finalizeMany 123 = .ok (.aload_n 0, 1) := by decide +kernel
theorem dX10_finalizeMany_124 : decode cX10_finalizeMany 124 = .ok (.getfield 516, 3) := by decide +kernel
theorem dX10_finalizeMany_127 : decode cX10_finalizeMany 127 = .ok (.iload_n 1, 1) := by decide +kernel
theorem dX10_finalizeMany_128 : decode cX10_finalizeMany 128 = .ok (.iaload, 1) := by decide +kernel
theorem dX10_finalizeMany_129 : decode cX10_finalizeMany 129 = .ok (.iaload, 1) := by decide +kernel
theorem dX10_finalizeMany_130 : decode cX10_finalizeMany 130 = .ok (.iconst 1, 1) := by decide +kernel
theorem dX10_finalizeMany_131 : decode cX10_finalizeMany 131 = .ok (.if_icmp .eq 6, 3) := by decide +kernel
theorem dX10_finalizeMany_134 : decode cX10_finalizeMany 134 = .ok (.bipush (-2), 2) := by decide +kernel
theorem dX10_finalizeMany_136 : decode cX10_finalizeMany 136 = .ok (.ireturn, 1) := by decide +kernel
theorem dX10_finalizeMany_137 : decode cX10_finalizeMany 137 = .ok (.aload_n 0, 1) := by decide +kernel
theorem dX10_finalizeMany_138 : decode cX10_finalizeMany 138 = .ok (.iload_n 1, 1) := by decide +kernel
theorem dX10_finalizeMany_139 : decode cX10_finalizeMany 139 = .ok (.iload_n 2, 1) := by decide +kernel
theorem dX10_finalizeMany_140 : decode cX10_finalizeMany 140 = .ok (.iload_n 3, 1) := by decide +kernel
theorem dX10_finalizeMany_141 : decode cX10_finalizeMany 141 = .ok (.invokevirtual 681, 3) := by decide +kernel
theorem dX10_finalizeMany_144 : decode cX10_finalizeMany 144 = .ok (.ireturn, 1) := by decide +kernel
abbrev cX10_redeem : ByteArray := prog_15_method_103_code
def yX10_redeem : MethodName := ⟨RX10, "redeem", "()I"⟩
theorem dX10_redeem_0 : decode cX10_redeem 0 = .ok (.aload_n 0, 1) := by decide +kernel
theorem dX10_redeem_1 : decode cX10_redeem 1 = .ok (.invokevirtual 612, 3) := by decide +kernel
theorem dX10_redeem_4 : decode cX10_redeem 4 = .ok (.istore_n 1, 1) := by decide +kernel
theorem dX10_redeem_5 : decode cX10_redeem 5 = .ok (.aload_n 0, 1) := by decide +kernel
theorem dX10_redeem_6 : decode cX10_redeem 6 = .ok (.getfield 704, 3) := by decide +kernel
theorem dX10_redeem_9 : decode cX10_redeem 9 = .ok (.ifCond .eq 6, 3) := by decide +kernel
theorem dX10_redeem_12 : decode cX10_redeem 12 = .ok (.bipush (-9), 2) := by decide +kernel
theorem dX10_redeem_14 : decode cX10_redeem 14 = .ok (.ireturn, 1) := by decide +kernel
theorem dX10_redeem_15 : decode cX10_redeem 15 = .ok (.iload_n 1, 1) := by decide +kernel
theorem dX10_redeem_16 : decode cX10_redeem 16 = .ok (.bipush 98, 2) := by decide +kernel
theorem dX10_redeem_18 : decode cX10_redeem 18 = .ok (.if_icmp .ge 6, 3) := by decide +kernel
theorem dX10_redeem_21 : decode cX10_redeem 21 = .ok (.bipush (-2), 2) := by decide +kernel
theorem dX10_redeem_23 : decode cX10_redeem 23 = .ok (.ireturn, 1) := by decide +kernel
theorem dX10_redeem_24 : decode cX10_redeem 24 = .ok (.iconst (-1), 1) := by decide +kernel
theorem dX10_redeem_25 : decode cX10_redeem 25 = .ok (.istore_n 2, 1) := by decide +kernel
theorem dX10_redeem_26 : decode cX10_redeem 26 = .ok (.aload_n 0, 1) := by decide +kernel
theorem dX10_redeem_27 : decode cX10_redeem 27 = .ok (.getfield 626, 3) := by decide +kernel
theorem dX10_redeem_30 : decode cX10_redeem 30 = .ok (.iconst 1, 1) := by decide +kernel
theorem dX10_redeem_31 : decode cX10_redeem 31 = .ok (.isub, 1) := by decide +kernel
theorem dX10_redeem_32 : decode cX10_redeem 32 = .ok (.istore_n 3, 1) := by decide +kernel
theorem dX10_redeem_33 : decode cX10_redeem 33 = .ok (.iload_n 3, 1) := by decide +kernel
theorem dX10_redeem_34 : decode cX10_redeem 34 = .ok (.ifCond .lt 98, 3) := by decide +kernel
theorem dX10_redeem_37 : decode cX10_redeem 37 = .ok (.aload_n 0, 1) := by decide +kernel
theorem dX10_redeem_38 : decode cX10_redeem 38 = .ok (.getfield 495, 3) := by decide +kernel
theorem dX10_redeem_41 : decode cX10_redeem 41 = .ok (.iload_n 3, 1) := by decide +kernel
theorem dX10_redeem_42 : decode cX10_redeem 42 = .ok (.baload, 1) := by decide +kernel
theorem dX10_redeem_43 : decode cX10_redeem 43 = .ok (.ifCond .eq 20, 3) := by decide +kernel
theorem dX10_redeem_46 : decode cX10_redeem 46 = .ok (.aload_n 0, 1) := by decide +kernel
theorem dX10_redeem_47 : decode cX10_redeem 47 = .ok (.aload_n 0, 1) := by decide +kernel
theorem dX10_redeem_48 : decode cX10_redeem 48 = .ok (.getfield 492, 3) := by decide +kernel
theorem dX10_redeem_51 : decode cX10_redeem 51 = .ok (.iload_n 3, 1) := by decide +kernel
theorem dX10_redeem_52 : decode cX10_redeem 52 = .ok (.iaload, 1) := by decide +kernel
theorem dX10_redeem_53 : decode cX10_redeem 53 = .ok (.invokevirtual 658, 3) := by decide +kernel
theorem dX10_redeem_56 : decode cX10_redeem 56 = .ok (.ifCond .eq 7, 3) := by decide +kernel
theorem dX10_redeem_59 : decode cX10_redeem 59 = .ok (.iconst 1, 1) := by decide +kernel
theorem dX10_redeem_60 : decode cX10_redeem 60 = .ok (.goto 4, 3) := by decide +kernel
theorem dX10_redeem_63 : decode cX10_redeem 63 = .ok (.iconst 0, 1) := by decide +kernel
theorem dX10_redeem_64 : decode cX10_redeem 64 = .ok (.istore 4, 2) := by decide +kernel
theorem dX10_redeem_66 : decode cX10_redeem 66 = .ok (.iconst 0, 1) := by decide +kernel
theorem dX10_redeem_67 : decode cX10_redeem 67 = .ok (.istore 5, 2) := by decide +kernel
theorem dX10_redeem_69 : decode cX10_redeem 69 = .ok (.iload 5, 2) := by decide +kernel
theorem dX10_redeem_71 : decode cX10_redeem 71 = .ok (.bipush 32, 2) := by decide +kernel
theorem dX10_redeem_73 : decode cX10_redeem 73 = .ok (.if_icmp .ge 46, 3) := by decide +kernel
theorem dX10_redeem_76 : decode cX10_redeem 76 = .ok (.iload 4, 2) := by decide +kernel
theorem dX10_redeem_78 : decode cX10_redeem 78 = .ok (.ifCond .eq 32, 3) := by decide +kernel
theorem dX10_redeem_81 : decode cX10_redeem 81 = .ok (.aload_n 0, 1) := by decide +kernel
theorem dX10_redeem_82 : decode cX10_redeem 82 = .ok (.getfield 499, 3) := by decide +kernel
theorem dX10_redeem_85 : decode cX10_redeem 85 = .ok (.bipush 32, 2) := by decide +kernel
theorem dX10_redeem_87 : decode cX10_redeem 87 = .ok (.iload_n 3, 1) := by decide +kernel
theorem dX10_redeem_88 : decode cX10_redeem 88 = .ok (.imul, 1) := by decide +kernel
theorem dX10_redeem_89 : decode cX10_redeem 89 = .ok (.iload 5, 2) := by decide +kernel
theorem dX10_redeem_91 : decode cX10_redeem 91 = .ok (.iadd, 1) := by decide +kernel
theorem dX10_redeem_92 : decode cX10_redeem 92 = .ok (.baload, 1) := by decide +kernel
theorem dX10_redeem_93 : decode cX10_redeem 93 = .ok (.aload_n 0, 1) := by decide +kernel
theorem dX10_redeem_94 : decode cX10_redeem 94 = .ok (.getfield 534, 3) := by decide +kernel
theorem dX10_redeem_97 : decode cX10_redeem 97 = .ok (.bipush 66, 2) := by decide +kernel
theorem dX10_redeem_99 : decode cX10_redeem 99 = .ok (.iload 5, 2) := by decide +kernel
theorem dX10_redeem_101 : decode cX10_redeem 101 = .ok (.iadd, 1) := by decide +kernel
theorem dX10_redeem_102 : decode cX10_redeem 102 = .ok (.baload, 1) := by decide +kernel
theorem dX10_redeem_103 : decode cX10_redeem 103 = .ok (.if_icmp .ne 7, 3) := by decide +kernel
theorem dX10_redeem_106 : decode cX10_redeem 106 = .ok (.iconst 1, 1) := by decide +kernel
theorem dX10_redeem_107 : decode cX10_redeem 107 = .ok (.goto 4, 3) := by decide +kernel
theorem dX10_redeem_110 : decode cX10_redeem 110 = .ok (.iconst 0, 1) := by decide +kernel
theorem dX10_redeem_111 : decode cX10_redeem 111 = .ok (.istore 4, 2) := by decide +kernel
theorem dX10_redeem_113 : decode cX10_redeem 113 = .ok (.iinc 5 1, 3) := by decide +kernel
theorem dX10_redeem_116 : decode cX10_redeem 116 = .ok (.goto (-47), 3) := by decide +kernel
theorem dX10_redeem_119 : decode cX10_redeem 119 = .ok (.iload 4, 2) := by decide +kernel
theorem dX10_redeem_121 : decode cX10_redeem 121 = .ok (.ifCond .eq 5, 3) := by decide +kernel
theorem dX10_redeem_124 : decode cX10_redeem 124 = .ok (.iload_n 3, 1) := by decide +kernel
theorem dX10_redeem_125 : decode cX10_redeem 125 = .ok (.istore_n 2, 1) := by decide +kernel
theorem dX10_redeem_126 : decode cX10_redeem 126 = .ok (.iinc 3 (-1), 3) := by decide +kernel
theorem dX10_redeem_129 : decode cX10_redeem 129 = .ok (.goto (-96), 3) := by decide +kernel
theorem dX10_redeem_132 : decode cX10_redeem 132 = .ok (.iload_n 2, 1) := by decide +kernel
theorem dX10_redeem_133 : decode cX10_redeem 133 = .ok (.ifCond .ge 6, 3) := by decide +kernel
theorem dX10_redeem_136 : decode cX10_redeem 136 = .ok (.bipush (-3), 2) := by decide +kernel
theorem dX10_redeem_138 : decode cX10_redeem 138 = .ok (.ireturn, 1) := by decide +kernel
theorem dX10_redeem_139 : decode cX10_redeem 139 = .ok (.iload_n 1, 1) := by decide +kernel
theorem dX10_redeem_140 : decode cX10_redeem 140 = .ok (.bipush 98, 2) := by decide +kernel
theorem dX10_redeem_142 : decode cX10_redeem 142 = .ok (.aload_n 0, 1) := by decide +kernel
theorem dX10_redeem_143 : decode cX10_redeem 143 = .ok (.getfield 510, 3) := by decide +kernel
theorem dX10_redeem_146 : decode cX10_redeem 146 = .ok (.iload_n 2, 1) := by decide +kernel
theorem dX10_redeem_147 : decode cX10_redeem 147 = .ok (.iaload, 1) := by decide +kernel
theorem dX10_redeem_148 : decode cX10_redeem 148 = .ok (.iadd, 1) := by decide +kernel
theorem dX10_redeem_149 : decode cX10_redeem 149 = .ok (.if_icmp .eq 6, 3) := by decide +kernel
theorem dX10_redeem_152 : decode cX10_redeem 152 = .ok (.bipush (-2), 2) := by decide +kernel
theorem dX10_redeem_154 : decode cX10_redeem 154 = .ok (.ireturn, 1) := by decide +kernel
theorem dX10_redeem_155 : decode cX10_redeem 155 = .ok (.aload_n 0, 1) := by decide +kernel
theorem dX10_redeem_156 : decode cX10_redeem 156 = .ok (.iload_n 2, 1) := by decide +kernel
theorem dX10_redeem_157 : decode cX10_redeem 157 = .ok (.invokevirtual 707, 3) := by decide +kernel
theorem dX10_redeem_160 : decode cX10_redeem 160 = .ok (.ifCond .ne 6, 3) := by decide +kernel
theorem dX10_redeem_163 : decode cX10_redeem 163 = .ok (.bipush (-4), 2) := by decide +kernel
theorem dX10_redeem_165 : decode cX10_redeem 165 = .ok (.ireturn, 1) := by decide +kernel
theorem dX10_redeem_166 : decode cX10_redeem 166 = .ok (.lconst 0, 1) := by decide +kernel
theorem dX10_redeem_167 : decode cX10_redeem 167 = .ok (.lstore_n 3, 1) := by decide +kernel
theorem dX10_redeem_168 : decode cX10_redeem 168 = .ok (.iconst 0, 1) := by decide +kernel
theorem dX10_redeem_169 : decode cX10_redeem 169 = .ok (.istore 5, 2) := by decide +kernel
theorem dX10_redeem_171 : decode cX10_redeem 171 = .ok (.iload 5, 2) := by decide +kernel
theorem dX10_redeem_173 : decode cX10_redeem 173 = .ok (.iconst 4, 1) := by decide +kernel
theorem dX10_redeem_174 : decode cX10_redeem 174 = .ok (.if_icmp .ge 29, 3) := by decide +kernel
theorem dX10_redeem_177 : decode cX10_redeem 177 = .ok (.lload_n 3, 1) := by decide +kernel
theorem dX10_redeem_178 : decode cX10_redeem 178 = .ok (.bipush 8, 2) := by decide +kernel
theorem dX10_redeem_180 : decode cX10_redeem 180 = .ok (.lshl, 1) := by decide +kernel
theorem dX10_redeem_181 : decode cX10_redeem 181 = .ok (.aload_n 0, 1) := by decide +kernel
theorem dX10_redeem_182 : decode cX10_redeem 182 = .ok (.getfield 534, 3) := by decide +kernel
theorem dX10_redeem_185 : decode cX10_redeem 185 = .ok (.iconst 2, 1) := by decide +kernel
theorem dX10_redeem_186 : decode cX10_redeem 186 = .ok (.iload 5, 2) := by decide +kernel
theorem dX10_redeem_188 : decode cX10_redeem 188 = .ok (.iadd, 1) := by decide +kernel
theorem dX10_redeem_189 : decode cX10_redeem 189 = .ok (.baload, 1) := by decide +kernel
theorem dX10_redeem_190 : decode cX10_redeem 190 = .ok (.sipush 255, 3) := by decide +kernel
theorem dX10_redeem_193 : decode cX10_redeem 193 = .ok (.iand, 1) := by decide +kernel
theorem dX10_redeem_194 : decode cX10_redeem 194 = .ok (.i2l, 1) := by decide +kernel
theorem dX10_redeem_195 : decode cX10_redeem 195 = .ok (.lor, 1) := by decide +kernel
theorem dX10_redeem_196 : decode cX10_redeem 196 = .ok (.lstore_n 3, 1) := by decide +kernel
theorem dX10_redeem_197 : decode cX10_redeem 197 = .ok (.iinc 5 1, 3) := by decide +kernel
theorem dX10_redeem_200 : decode cX10_redeem 200 = .ok (.goto (-29), 3) := by decide +kernel
theorem dX10_redeem_203 : decode cX10_redeem 203 = .ok (.lload_n 3, 1) := by decide +kernel
theorem dX10_redeem_204 : decode cX10_redeem 204 = .ok (.ldc2_w 710, 3) := by decide +kernel
theorem dX10_redeem_207 : decode cX10_redeem 207 = .ok (.lrem, 1) := by decide +kernel
theorem dX10_redeem_208 : decode cX10_redeem 208 = .ok (.l2i, 1) := by decide +kernel
theorem dX10_redeem_209 : decode cX10_redeem 209 = .ok (.istore 5, 2) := by decide +kernel
theorem dX10_redeem_211 : decode cX10_redeem 211 = .ok (.iconst (-1), 1) := by decide +kernel
theorem dX10_redeem_212 : decode cX10_redeem 212 = .ok (.istore 6, 2) := by decide +kernel
theorem dX10_redeem_214 : decode cX10_redeem 214 = .ok (.iconst 0, 1) := by decide +kernel
theorem dX10_redeem_215 : decode cX10_redeem 215 = .ok (.istore 7, 2) := by decide +kernel
theorem dX10_redeem_217 : decode cX10_redeem 217 = .ok (.iload 7, 2) := by decide +kernel
theorem dX10_redeem_219 : decode cX10_redeem 219 = .ok (.bipush 112, 2) := by decide +kernel
theorem dX10_redeem_221 : decode cX10_redeem 221 = .ok (.if_icmp .ge 52, 3) := by decide +kernel
theorem dX10_redeem_224 : decode cX10_redeem 224 = .ok (.iload 6, 2) := by decide +kernel
theorem dX10_redeem_226 : decode cX10_redeem 226 = .ok (.ifCond .ge 47, 3) := by decide +kernel
theorem dX10_redeem_229 : decode cX10_redeem 229 = .ok (.iload 5, 2) := by decide +kernel
theorem dX10_redeem_231 : decode cX10_redeem 231 = .ok (.iload 7, 2) := by decide +kernel
theorem dX10_redeem_233 : decode cX10_redeem 233 = .ok (.iadd, 1) := by decide +kernel
theorem dX10_redeem_234 : decode cX10_redeem 234 = .ok (.bipush 112, 2) := by decide +kernel
theorem dX10_redeem_236 : decode cX10_redeem 236 = .ok (.irem, 1) := by decide +kernel
theorem dX10_redeem_237 : decode cX10_redeem 237 = .ok (.istore 8, 2) := by decide +kernel
theorem dX10_redeem_239 : decode cX10_redeem 239 = .ok (.aload_n 0, 1) := by decide +kernel
theorem dX10_redeem_240 : decode cX10_redeem 240 = .ok (.iload 8, 2) := by decide +kernel
theorem dX10_redeem_242 : decode cX10_redeem 242 = .ok (.invokevirtual 712, 3) := by decide +kernel
theorem dX10_redeem_245 : decode cX10_redeem 245 = .ok (.ifCond .eq 10, 3) := by decide +kernel
theorem dX10_redeem_248 : decode cX10_redeem 248 = .ok (.iload 8, 2) := by decide +kernel
theorem dX10_redeem_250 : decode cX10_redeem 250 = .ok (.istore 6, 2) := by decide +kernel
theorem dX10_redeem_252 : decode cX10_redeem 252 = .ok (.goto 15, 3) := by decide +kernel
theorem dX10_redeem_255 : decode cX10_redeem 255 = .ok (.aload_n 0, 1) := by decide +kernel
theorem dX10_redeem_256 : decode cX10_redeem 256 = .ok (.iload 8, 2) := by decide +kernel
theorem dX10_redeem_258 : decode cX10_redeem 258 = .ok (.invokevirtual 715, 3) := by decide +kernel
theorem dX10_redeem_261 : decode cX10_redeem 261 = .ok (.ifCond .eq 6, 3) := by decide +kernel
theorem dX10_redeem_264 : decode cX10_redeem 264 = .ok (.bipush (-5), 2) := by decide +kernel
theorem dX10_redeem_266 : decode cX10_redeem 266 = .ok (.ireturn, 1) := by decide +kernel
theorem dX10_redeem_267 : decode cX10_redeem 267 = .ok (.iinc 7 1, 3) := by decide +kernel
theorem dX10_redeem_270 : decode cX10_redeem 270 = .ok (.goto (-53), 3) := by decide +kernel
theorem dX10_redeem_273 : decode cX10_redeem 273 = .ok (.iload 6, 2) := by decide +kernel
theorem dX10_redeem_275 : decode cX10_redeem 275 = .ok (.ifCond .ge 6, 3) := by decide +kernel
theorem dX10_redeem_278 : decode cX10_redeem 278 = .ok (.bipush (-6), 2) := by decide +kernel
theorem dX10_redeem_280 : decode cX10_redeem 280 = .ok (.ireturn, 1) := by decide +kernel
theorem dX10_redeem_281 : decode cX10_redeem 281 = .ok (.aload_n 0, 1) := by decide +kernel
theorem dX10_redeem_282 : decode cX10_redeem 282 = .ok (.getfield 531, 3) := by decide +kernel
theorem dX10_redeem_285 : decode cX10_redeem 285 = .ok (.ifCond .ne 11, 3) := by decide +kernel
theorem dX10_redeem_288 : decode cX10_redeem 288 = .ok (.aload_n 0, 1) := by decide +kernel
theorem dX10_redeem_289 : decode cX10_redeem 289 = .ok (.iconst 1, 1) := by decide +kernel
theorem dX10_redeem_290 : decode cX10_redeem 290 = .ok (.putfield 704, 3) := by decide +kernel
theorem dX10_redeem_293 : decode cX10_redeem 293 = .ok (.bipush (-9), 2) := by decide +kernel
theorem dX10_redeem_295 : decode cX10_redeem 295 = .ok (.ireturn, 1) := by decide +kernel
theorem dX10_redeem_296 : decode cX10_redeem 296 = .ok (.aload_n 0, 1) := by decide +kernel
theorem dX10_redeem_297 : decode cX10_redeem 297 = .ok (.getfield 531, 3) := by decide +kernel
theorem dX10_redeem_300 : decode cX10_redeem 300 = .ok (.ifCond .le 13, 3) := by decide +kernel
theorem dX10_redeem_303 : decode cX10_redeem 303 = .ok (.aload_n 0, 1) := by decide +kernel
theorem dX10_redeem_304 : decode cX10_redeem 304 = .ok (.dup, 1) := by decide +kernel
theorem dX10_redeem_305 : decode cX10_redeem 305 = .ok (.getfield 531, 3) := by decide +kernel
theorem dX10_redeem_308 : decode cX10_redeem 308 = .ok (.iconst 1, 1) := by decide +kernel
theorem dX10_redeem_309 : decode cX10_redeem 309 = .ok (.isub, 1) := by decide +kernel
theorem dX10_redeem_310 : decode cX10_redeem 310 = .ok (.putfield 531, 3) := by decide +kernel
theorem dX10_redeem_313 : decode cX10_redeem 313 = .ok (.aload_n 0, 1) := by decide +kernel
theorem dX10_redeem_314 : decode cX10_redeem 314 = .ok (.dup, 1) := by decide +kernel
theorem dX10_redeem_315 : decode cX10_redeem 315 = .ok (.getfield 718, 3) := by decide +kernel
theorem dX10_redeem_318 : decode cX10_redeem 318 = .ok (.iconst 1, 1) := by decide +kernel
theorem dX10_redeem_319 : decode cX10_redeem 319 = .ok (.iadd, 1) := by decide +kernel
theorem dX10_redeem_320 : decode cX10_redeem 320 = .ok (.putfield 718, 3) := by decide +kernel
theorem dX10_redeem_323 : decode cX10_redeem 323 = .ok (.aload_n 0, 1) := by decide +kernel
theorem dX10_redeem_324 : decode cX10_redeem 324 = .ok (.dup, 1) := by decide +kernel
theorem dX10_redeem_325 : decode cX10_redeem 325 = .ok (.getfield 721, 3) := by decide +kernel
theorem dX10_redeem_328 : decode cX10_redeem 328 = .ok (.iconst 1, 1) := by decide +kernel
theorem dX10_redeem_329 : decode cX10_redeem 329 = .ok (.iadd, 1) := by decide +kernel
theorem dX10_redeem_330 : decode cX10_redeem 330 = .ok (.putfield 721, 3) := by decide +kernel
theorem dX10_redeem_333 : decode cX10_redeem 333 = .ok (.aload_n 0, 1) := by decide +kernel
theorem dX10_redeem_334 : decode cX10_redeem 334 = .ok (.getfield 528, 3) := by decide +kernel
theorem dX10_redeem_337 : decode cX10_redeem 337 = .ok (.iload 6, 2) := by decide +kernel
theorem dX10_redeem_339 : decode cX10_redeem 339 = .ok (.invokestatic 701, 3) := by decide +kernel
theorem dX10_redeem_342 : decode cX10_redeem 342 = .ok (.iconst 3, 1) := by decide +kernel
theorem dX10_redeem_343 : decode cX10_redeem 343 = .ok (.iadd, 1) := by decide +kernel
theorem dX10_redeem_344 : decode cX10_redeem 344 = .ok (.iconst 1, 1) := by decide +kernel
theorem dX10_redeem_345 : decode cX10_redeem 345 = .ok (.bastore, 1) := by decide +kernel
theorem dX10_redeem_346 : decode cX10_redeem 346 = .ok (.iconst 0, 1) := by decide +kernel
theorem dX10_redeem_347 : decode cX10_redeem 347 = .ok (.istore 7, 2) := by decide +kernel
theorem dX10_redeem_349 : decode cX10_redeem 349 = .ok (.iload 7, 2) := by decide +kernel
theorem dX10_redeem_351 : decode cX10_redeem 351 = .ok (.bipush 32, 2) := by decide +kernel
theorem dX10_redeem_353 : decode cX10_redeem 353 = .ok (.if_icmp .ge 33, 3) := by decide +kernel
theorem dX10_redeem_356 : decode cX10_redeem 356 = .ok (.aload_n 0, 1) := by decide +kernel
theorem dX10_redeem_357 : decode cX10_redeem 357 = .ok (.getfield 528, 3) := by decide +kernel
theorem dX10_redeem_360 : decode cX10_redeem 360 = .ok (.iload 6, 2) := by decide +kernel
theorem dX10_redeem_362 : decode cX10_redeem 362 = .ok (.invokestatic 701, 3) := by decide +kernel
theorem dX10_redeem_365 : decode cX10_redeem 365 = .ok (.iconst 4, 1) := by decide +kernel
theorem dX10_redeem_366 : decode cX10_redeem 366 = .ok (.iadd, 1) := by decide +kernel
theorem dX10_redeem_367 : decode cX10_redeem 367 = .ok (.iload 7, 2) := by decide +kernel
theorem dX10_redeem_369 : decode cX10_redeem 369 = .ok (.iadd, 1) := by decide +kernel
theorem dX10_redeem_370 : decode cX10_redeem 370 = .ok (.aload_n 0, 1) := by decide +kernel
theorem dX10_redeem_371 : decode cX10_redeem 371 = .ok (.getfield 534, 3) := by decide +kernel
theorem dX10_redeem_374 : decode cX10_redeem 374 = .ok (.iconst 2, 1) := by decide +kernel
theorem dX10_redeem_375 : decode cX10_redeem 375 = .ok (.iload 7, 2) := by decide +kernel
theorem dX10_redeem_377 : decode cX10_redeem 377 = .ok (.iadd, 1) := by decide +kernel
theorem dX10_redeem_378 : decode cX10_redeem 378 = .ok (.baload, 1) := by decide +kernel
theorem dX10_redeem_379 : decode cX10_redeem 379 = .ok (.bastore, 1) := by decide +kernel
theorem dX10_redeem_380 : decode cX10_redeem 380 = .ok (.iinc 7 1, 3) := by decide +kernel
theorem dX10_redeem_383 : decode cX10_redeem 383 = .ok (.goto (-34), 3) := by decide +kernel
theorem dX10_redeem_386 : decode cX10_redeem 386 = .ok (.iconst 0, 1) := by decide +kernel
theorem dX10_redeem_387 : decode cX10_redeem 387 = .ok (.ireturn, 1) := by decide +kernel
abbrev cX10_isRight : ByteArray := prog_15_method_102_code
def yX10_isRight : MethodName := ⟨RX10, "isRight", "(I)Z"⟩
theorem dX10_isRight_0 : decode cX10_isRight 0 = .ok (.aload_n 0, 1) := by decide +kernel
theorem dX10_isRight_1 : decode cX10_isRight 1 = .ok (.getfield 492, 3) := by decide +kernel
theorem dX10_isRight_4 : decode cX10_isRight 4 = .ok (.iload_n 1, 1) := by decide +kernel
theorem dX10_isRight_5 : decode cX10_isRight 5 = .ok (.iaload, 1) := by decide +kernel
theorem dX10_isRight_6 : decode cX10_isRight 6 = .ok (.iconst 2, 1) := by decide +kernel
theorem dX10_isRight_7 : decode cX10_isRight 7 = .ok (.if_icmp .ne 46, 3) := by decide +kernel
theorem dX10_isRight_10 : decode cX10_isRight 10 = .ok (.aload_n 0, 1) := by decide +kernel
theorem dX10_isRight_11 : decode cX10_isRight 11 = .ok (.getfield 534, 3) := by decide +kernel
theorem dX10_isRight_14 : decode cX10_isRight 14 = .ok (.bipush 98, 2) := by decide +kernel
theorem dX10_isRight_16 : decode cX10_isRight 16 = .ok (.aload_n 0, 1) := by decide +kernel
theorem dX10_isRight_17 : decode cX10_isRight 17 = .ok (.getfield 510, 3) := by decide +kernel
theorem dX10_isRight_20 : decode cX10_isRight 20 = .ok (.iload_n 1, 1) := by decide +kernel
theorem dX10_isRight_21 : decode cX10_isRight 21 = .ok (.iaload, 1) := by decide +kernel
theorem dX10_isRight_22 : decode cX10_isRight 22 = .ok (.aload_n 0, 1) := by decide +kernel
theorem dX10_isRight_23 : decode cX10_isRight 23 = .ok (.getfield 549, 3) := by decide +kernel
theorem dX10_isRight_26 : decode cX10_isRight 26 = .ok (.aload_n 0, 1) := by decide +kernel
theorem dX10_isRight_27 : decode cX10_isRight 27 = .ok (.getfield 503, 3) := by decide +kernel
theorem dX10_isRight_30 : decode cX10_isRight 30 = .ok (.iload_n 1, 1) := by decide +kernel
theorem dX10_isRight_31 : decode cX10_isRight 31 = .ok (.aaload, 1) := by decide +kernel
theorem dX10_isRight_32 : decode cX10_isRight 32 = .ok (.getfield 13, 3) := by decide +kernel
theorem dX10_isRight_35 : decode cX10_isRight 35 = .ok (.invokestatic 217, 3) := by decide +kernel
theorem dX10_isRight_38 : decode cX10_isRight 38 = .ok (.aload_n 0, 1) := by decide +kernel
theorem dX10_isRight_39 : decode cX10_isRight 39 = .ok (.iload_n 1, 1) := by decide +kernel
theorem dX10_isRight_40 : decode cX10_isRight 40 = .ok (.aload_n 0, 1) := by decide +kernel
theorem dX10_isRight_41 : decode cX10_isRight 41 = .ok (.getfield 534, 3) := by decide +kernel
theorem dX10_isRight_44 : decode cX10_isRight 44 = .ok (.iconst 0, 1) := by decide +kernel
theorem dX10_isRight_45 : decode cX10_isRight 45 = .ok (.aload_n 0, 1) := by decide +kernel
theorem dX10_isRight_46 : decode cX10_isRight 46 = .ok (.getfield 549, 3) := by decide +kernel
theorem dX10_isRight_49 : decode cX10_isRight 49 = .ok (.invokevirtual 697, 3) := by decide +kernel
theorem dX10_isRight_52 : decode cX10_isRight 52 = .ok (.ireturn, 1) := by decide +kernel
theorem dX10_isRight_53 : decode cX10_isRight 53 = .ok (.aload_n 0, 1) := by decide +kernel
theorem dX10_isRight_54 : decode cX10_isRight 54 = .ok (.aload_n 0, 1) := by decide +kernel
theorem dX10_isRight_55 : decode cX10_isRight 55 = .ok (.getfield 534, 3) := by decide +kernel
theorem dX10_isRight_58 : decode cX10_isRight 58 = .ok (.iconst 0, 1) := by decide +kernel
theorem dX10_isRight_59 : decode cX10_isRight 59 = .ok (.bipush 98, 2) := by decide +kernel
theorem dX10_isRight_61 : decode cX10_isRight 61 = .ok (.aload_n 0, 1) := by decide +kernel
theorem dX10_isRight_62 : decode cX10_isRight 62 = .ok (.getfield 564, 3) := by decide +kernel
theorem dX10_isRight_65 : decode cX10_isRight 65 = .ok (.invokevirtual 650, 3) := by decide +kernel
theorem dX10_isRight_68 : decode cX10_isRight 68 = .ok (.aload_n 0, 1) := by decide +kernel
theorem dX10_isRight_69 : decode cX10_isRight 69 = .ok (.getfield 564, 3) := by decide +kernel
theorem dX10_isRight_72 : decode cX10_isRight 72 = .ok (.getfield 136, 3) := by decide +kernel
theorem dX10_isRight_75 : decode cX10_isRight 75 = .ok (.ifCond .eq 5, 3) := by decide +kernel
theorem dX10_isRight_78 : decode cX10_isRight 78 = .ok (.iconst 0, 1) := by decide +kernel
theorem dX10_isRight_79 : decode cX10_isRight 79 = .ok (.ireturn, 1) := by decide +kernel
theorem dX10_isRight_80 : decode cX10_isRight 80 = .ok (.aload_n 0, 1) := by decide +kernel
theorem dX10_isRight_81 : decode cX10_isRight 81 = .ok (.aload_n 0, 1) := by decide +kernel
theorem dX10_isRight_82 : decode cX10_isRight 82 = .ok (.getfield 475, 3) := by decide +kernel
theorem dX10_isRight_85 : decode cX10_isRight 85 = .ok (.iload_n 1, 1) := by decide +kernel
theorem dX10_isRight_86 : decode cX10_isRight 86 = .ok (.aaload, 1) := by decide +kernel
theorem dX10_isRight_87 : decode cX10_isRight 87 = .ok (.aload_n 0, 1) := by decide +kernel
theorem dX10_isRight_88 : decode cX10_isRight 88 = .ok (.getfield 564, 3) := by decide +kernel
theorem dX10_isRight_91 : decode cX10_isRight 91 = .ok (.aload_n 0, 1) := by decide +kernel
theorem dX10_isRight_92 : decode cX10_isRight 92 = .ok (.getfield 564, 3) := by decide +kernel
theorem dX10_isRight_95 : decode cX10_isRight 95 = .ok (.invokevirtual 446, 3) := by decide +kernel
theorem dX10_isRight_98 : decode cX10_isRight 98 = .ok (.aload_n 0, 1) := by decide +kernel
theorem dX10_isRight_99 : decode cX10_isRight 99 = .ok (.getfield 564, 3) := by decide +kernel
theorem dX10_isRight_102 : decode cX10_isRight 102 = .ok (.getfield 136, 3) := by decide +kernel
theorem dX10_isRight_105 : decode cX10_isRight 105 = .ok (.ifCond .eq 5, 3) := by decide +kernel
theorem dX10_isRight_108 : decode cX10_isRight 108 = .ok (.iconst 0, 1) := by decide +kernel
theorem dX10_isRight_109 : decode cX10_isRight 109 = .ok (.ireturn, 1) := by decide +kernel
theorem dX10_isRight_110 : decode cX10_isRight 110 = .ok (.aload_n 0, 1) := by decide +kernel
theorem dX10_isRight_111 : decode cX10_isRight 111 = .ok (.aload_n 0, 1) := by decide +kernel
theorem dX10_isRight_112 : decode cX10_isRight 112 = .ok (.getfield 534, 3) := by decide +kernel
theorem dX10_isRight_115 : decode cX10_isRight 115 = .ok (.iconst 0, 1) := by decide +kernel
theorem dX10_isRight_116 : decode cX10_isRight 116 = .ok (.aload_n 0, 1) := by decide +kernel
theorem dX10_isRight_117 : decode cX10_isRight 117 = .ok (.getfield 564, 3) := by decide +kernel
theorem dX10_isRight_120 : decode cX10_isRight 120 = .ok (.invokevirtual 693, 3) := by decide +kernel
theorem dX10_isRight_123 : decode cX10_isRight 123 = .ok (.iconst 1, 1) := by decide +kernel
theorem dX10_isRight_124 : decode cX10_isRight 124 = .ok (.istore_n 2, 1) := by decide +kernel
theorem dX10_isRight_125 : decode cX10_isRight 125 = .ok (.iconst 0, 1) := by decide +kernel
theorem dX10_isRight_126 : decode cX10_isRight 126 = .ok (.istore_n 3, 1) := by decide +kernel
theorem dX10_isRight_127 : decode cX10_isRight 127 = .ok (.iload_n 3, 1) := by decide +kernel
theorem dX10_isRight_128 : decode cX10_isRight 128 = .ok (.bipush 48, 2) := by decide +kernel
theorem dX10_isRight_130 : decode cX10_isRight 130 = .ok (.if_icmp .ge 37, 3) := by decide +kernel
theorem dX10_isRight_133 : decode cX10_isRight 133 = .ok (.iload_n 2, 1) := by decide +kernel
theorem dX10_isRight_134 : decode cX10_isRight 134 = .ok (.ifCond .eq 25, 3) := by decide +kernel
theorem dX10_isRight_137 : decode cX10_isRight 137 = .ok (.aload_n 0, 1) := by decide +kernel
theorem dX10_isRight_138 : decode cX10_isRight 138 = .ok (.getfield 283, 3) := by decide +kernel
theorem dX10_isRight_141 : decode cX10_isRight 141 = .ok (.iload_n 3, 1) := by decide +kernel
theorem dX10_isRight_142 : decode cX10_isRight 142 = .ok (.baload, 1) := by decide +kernel
theorem dX10_isRight_143 : decode cX10_isRight 143 = .ok (.aload_n 0, 1) := by decide +kernel
theorem dX10_isRight_144 : decode cX10_isRight 144 = .ok (.getfield 534, 3) := by decide +kernel
theorem dX10_isRight_147 : decode cX10_isRight 147 = .ok (.bipush 98, 2) := by decide +kernel
theorem dX10_isRight_149 : decode cX10_isRight 149 = .ok (.iload_n 3, 1) := by decide +kernel
theorem dX10_isRight_150 : decode cX10_isRight 150 = .ok (.iadd, 1) := by decide +kernel
theorem dX10_isRight_151 : decode cX10_isRight 151 = .ok (.baload, 1) := by decide +kernel
theorem dX10_isRight_152 : decode cX10_isRight 152 = .ok (.if_icmp .ne 7, 3) := by decide +kernel
theorem dX10_isRight_155 : decode cX10_isRight 155 = .ok (.iconst 1, 1) := by decide +kernel
theorem dX10_isRight_156 : decode cX10_isRight 156 = .ok (.goto 4, 3) := by decide +kernel
theorem dX10_isRight_159 : decode cX10_isRight 159 = .ok (.iconst 0, 1) := by decide +kernel
theorem dX10_isRight_160 : decode cX10_isRight 160 = .ok (.istore_n 2, 1) := by decide +kernel
theorem dX10_isRight_161 : decode cX10_isRight 161 = .ok (.iinc 3 1, 3) := by decide +kernel
theorem dX10_isRight_164 : decode cX10_isRight 164 = .ok (.goto (-37), 3) := by decide +kernel
theorem dX10_isRight_167 : decode cX10_isRight 167 = .ok (.iload_n 2, 1) := by decide +kernel
theorem dX10_isRight_168 : decode cX10_isRight 168 = .ok (.ireturn, 1) := by decide +kernel
abbrev cX10_isFree : ByteArray := prog_15_method_100_code
def yX10_isFree : MethodName := ⟨RX10, "isFree", "(I)Z"⟩
theorem dX10_isFree_0 : decode cX10_isFree 0 = .ok (.iload_n 1, 1) := by decide +kernel
theorem dX10_isFree_1 : decode cX10_isFree 1 = .ok (.invokestatic 701, 3) := by decide +kernel
theorem dX10_isFree_4 : decode cX10_isFree 4 = .ok (.istore_n 2, 1) := by decide +kernel
theorem dX10_isFree_5 : decode cX10_isFree 5 = .ok (.aload_n 0, 1) := by decide +kernel
theorem dX10_isFree_6 : decode cX10_isFree 6 = .ok (.getfield 528, 3) := by decide +kernel
theorem dX10_isFree_9 : decode cX10_isFree 9 = .ok (.iload_n 2, 1) := by decide +kernel
theorem dX10_isFree_10 : decode cX10_isFree 10 = .ok (.baload, 1) := by decide +kernel
theorem dX10_isFree_11 : decode cX10_isFree 11 = .ok (.ifCond .ne 40, 3) := by decide +kernel
theorem dX10_isFree_14 : decode cX10_isFree 14 = .ok (.aload_n 0, 1) := by decide +kernel
theorem dX10_isFree_15 : decode cX10_isFree 15 = .ok (.getfield 528, 3) := by decide +kernel
theorem dX10_isFree_18 : decode cX10_isFree 18 = .ok (.iload_n 2, 1) := by decide +kernel
theorem dX10_isFree_19 : decode cX10_isFree 19 = .ok (.iconst 1, 1) := by decide +kernel
theorem dX10_isFree_20 : decode cX10_isFree 20 = .ok (.iadd, 1) := by decide +kernel
theorem dX10_isFree_21 : decode cX10_isFree 21 = .ok (.baload, 1) := by decide +kernel
theorem dX10_isFree_22 : decode cX10_isFree 22 = .ok (.ifCond .ne 29, 3) := by decide +kernel
theorem dX10_isFree_25 : decode cX10_isFree 25 = .ok (.aload_n 0, 1) := by decide +kernel
theorem dX10_isFree_26 : decode cX10_isFree 26 = .ok (.getfield 528, 3) := by decide +kernel
theorem dX10_isFree_29 : decode cX10_isFree 29 = .ok (.iload_n 2, 1) := by decide +kernel
theorem dX10_isFree_30 : decode cX10_isFree 30 = .ok (.iconst 2, 1) := by decide +kernel
theorem dX10_isFree_31 : decode cX10_isFree 31 = .ok (.iadd, 1) := by decide +kernel
theorem dX10_isFree_32 : decode cX10_isFree 32 = .ok (.baload, 1) := by decide +kernel
theorem dX10_isFree_33 : decode cX10_isFree 33 = .ok (.ifCond .ne 18, 3) := by decide +kernel
theorem dX10_isFree_36 : decode cX10_isFree 36 = .ok (.aload_n 0, 1) := by decide +kernel
theorem dX10_isFree_37 : decode cX10_isFree 37 = .ok (.getfield 528, 3) := by decide +kernel
theorem dX10_isFree_40 : decode cX10_isFree 40 = .ok (.iload_n 2, 1) := by decide +kernel
theorem dX10_isFree_41 : decode cX10_isFree 41 = .ok (.iconst 3, 1) := by decide +kernel
theorem dX10_isFree_42 : decode cX10_isFree 42 = .ok (.iadd, 1) := by decide +kernel
theorem dX10_isFree_43 : decode cX10_isFree 43 = .ok (.baload, 1) := by decide +kernel
theorem dX10_isFree_44 : decode cX10_isFree 44 = .ok (.ifCond .ne 7, 3) := by decide +kernel
theorem dX10_isFree_47 : decode cX10_isFree 47 = .ok (.iconst 1, 1) := by decide +kernel
theorem dX10_isFree_48 : decode cX10_isFree 48 = .ok (.goto 4, 3) := by decide +kernel
theorem dX10_isFree_51 : decode cX10_isFree 51 = .ok (.iconst 0, 1) := by decide +kernel
theorem dX10_isFree_52 : decode cX10_isFree 52 = .ok (.ireturn, 1) := by decide +kernel
abbrev cX10_slot : ByteArray := prog_15_method_99_code
def yX10_slot : MethodName := ⟨RX10, "slot", "(I)I"⟩
theorem dX10_slot_0 : decode cX10_slot 0 = .ok (.sipush 512, 3) := by decide +kernel
theorem dX10_slot_3 : decode cX10_slot 3 = .ok (.iload_n 0, 1) := by decide +kernel
theorem dX10_slot_4 : decode cX10_slot 4 = .ok (.bipush 14, 2) := by decide +kernel
theorem dX10_slot_6 : decode cX10_slot 6 = .ok (.idiv, 1) := by decide +kernel
theorem dX10_slot_7 : decode cX10_slot 7 = .ok (.imul, 1) := by decide +kernel
theorem dX10_slot_8 : decode cX10_slot 8 = .ok (.bipush 36, 2) := by decide +kernel
theorem dX10_slot_10 : decode cX10_slot 10 = .ok (.iload_n 0, 1) := by decide +kernel
theorem dX10_slot_11 : decode cX10_slot 11 = .ok (.bipush 14, 2) := by decide +kernel
theorem dX10_slot_13 : decode cX10_slot 13 = .ok (.irem, 1) := by decide +kernel
theorem dX10_slot_14 : decode cX10_slot 14 = .ok (.imul, 1) := by decide +kernel
theorem dX10_slot_15 : decode cX10_slot 15 = .ok (.iadd, 1) := by decide +kernel
theorem dX10_slot_16 : decode cX10_slot 16 = .ok (.ireturn, 1) := by decide +kernel
abbrev cX10_isIn : ByteArray := prog_15_method_101_code
def yX10_isIn : MethodName := ⟨RX10, "isIn", "(I)Z"⟩
theorem dX10_isIn_0 : decode cX10_isIn 0 = .ok (.iconst 1, 1) := by decide +kernel
theorem dX10_isIn_1 : decode cX10_isIn 1 = .ok (.istore_n 2, 1) := by decide +kernel
theorem dX10_isIn_2 : decode cX10_isIn 2 = .ok (.iconst 0, 1) := by decide +kernel
theorem dX10_isIn_3 : decode cX10_isIn 3 = .ok (.istore_n 3, 1) := by decide +kernel
theorem dX10_isIn_4 : decode cX10_isIn 4 = .ok (.iload_n 3, 1) := by decide +kernel
theorem dX10_isIn_5 : decode cX10_isIn 5 = .ok (.bipush 32, 2) := by decide +kernel
theorem dX10_isIn_7 : decode cX10_isIn 7 = .ok (.if_icmp .ge 43, 3) := by decide +kernel
theorem dX10_isIn_10 : decode cX10_isIn 10 = .ok (.iload_n 2, 1) := by decide +kernel
theorem dX10_isIn_11 : decode cX10_isIn 11 = .ok (.ifCond .eq 31, 3) := by decide +kernel
theorem dX10_isIn_14 : decode cX10_isIn 14 = .ok (.aload_n 0, 1) := by decide +kernel
theorem dX10_isIn_15 : decode cX10_isIn 15 = .ok (.getfield 528, 3) := by decide +kernel
theorem dX10_isIn_18 : decode cX10_isIn 18 = .ok (.iload_n 1, 1) := by decide +kernel
theorem dX10_isIn_19 : decode cX10_isIn 19 = .ok (.invokestatic 701, 3) := by decide +kernel
theorem dX10_isIn_22 : decode cX10_isIn 22 = .ok (.iconst 4, 1) := by decide +kernel
theorem dX10_isIn_23 : decode cX10_isIn 23 = .ok (.iadd, 1) := by decide +kernel
theorem dX10_isIn_24 : decode cX10_isIn 24 = .ok (.iload_n 3, 1) := by decide +kernel
theorem dX10_isIn_25 : decode cX10_isIn 25 = .ok (.iadd, 1) := by decide +kernel
theorem dX10_isIn_26 : decode cX10_isIn 26 = .ok (.baload, 1) := by decide +kernel
theorem dX10_isIn_27 : decode cX10_isIn 27 = .ok (.aload_n 0, 1) := by decide +kernel
theorem dX10_isIn_28 : decode cX10_isIn 28 = .ok (.getfield 534, 3) := by decide +kernel
theorem dX10_isIn_31 : decode cX10_isIn 31 = .ok (.iconst 2, 1) := by decide +kernel
theorem dX10_isIn_32 : decode cX10_isIn 32 = .ok (.iload_n 3, 1) := by decide +kernel
theorem dX10_isIn_33 : decode cX10_isIn 33 = .ok (.iadd, 1) := by decide +kernel
theorem dX10_isIn_34 : decode cX10_isIn 34 = .ok (.baload, 1) := by decide +kernel
theorem dX10_isIn_35 : decode cX10_isIn 35 = .ok (.if_icmp .ne 7, 3) := by decide +kernel
theorem dX10_isIn_38 : decode cX10_isIn 38 = .ok (.iconst 1, 1) := by decide +kernel
theorem dX10_isIn_39 : decode cX10_isIn 39 = .ok (.goto 4, 3) := by decide +kernel
theorem dX10_isIn_42 : decode cX10_isIn 42 = .ok (.iconst 0, 1) := by decide +kernel
theorem dX10_isIn_43 : decode cX10_isIn 43 = .ok (.istore_n 2, 1) := by decide +kernel
theorem dX10_isIn_44 : decode cX10_isIn 44 = .ok (.iinc 3 1, 3) := by decide +kernel
theorem dX10_isIn_47 : decode cX10_isIn 47 = .ok (.goto (-43), 3) := by decide +kernel
theorem dX10_isIn_50 : decode cX10_isIn 50 = .ok (.iload_n 2, 1) := by decide +kernel
theorem dX10_isIn_51 : decode cX10_isIn 51 = .ok (.ireturn, 1) := by decide +kernel
abbrev cX10_cut : ByteArray := prog_15_method_104_code
def yX10_cut : MethodName := ⟨RX10, "cut", "(I)Z"⟩
theorem dX10_cut_0 : decode cX10_cut 0 = .ok (.aload_n 0, 1) := by decide +kernel
theorem dX10_cut_1 : decode cX10_cut 1 = .ok (.iconst 0, 1) := by decide +kernel
theorem dX10_cut_2 : decode cX10_cut 2 = .ok (.putfield 1, 3) := by decide +kernel
theorem dX10_cut_5 : decode cX10_cut 5 = .ok (.iload_n 1, 1) := by decide +kernel
theorem dX10_cut_6 : decode cX10_cut 6 = .ok (.ifCond .lt 17, 3) := by decide +kernel
theorem dX10_cut_9 : decode cX10_cut 9 = .ok (.iload_n 1, 1) := by decide +kernel
theorem dX10_cut_10 : decode cX10_cut 10 = .ok (.sipush 1000, 3) := by decide +kernel
theorem dX10_cut_13 : decode cX10_cut 13 = .ok (.if_icmp .gt 10, 3) := by decide +kernel
theorem dX10_cut_16 : decode cX10_cut 16 = .ok (.aload_n 0, 1) := by decide +kernel
theorem dX10_cut_17 : decode cX10_cut 17 = .ok (.getfield 704, 3) := by decide +kernel
theorem dX10_cut_20 : decode cX10_cut 20 = .ok (.ifCond .eq 5, 3) := by decide +kernel
theorem dX10_cut_23 : decode cX10_cut 23 = .ok (.iconst 0, 1) := by decide +kernel
theorem dX10_cut_24 : decode cX10_cut 24 = .ok (.ireturn, 1) := by decide +kernel
theorem dX10_cut_25 : decode cX10_cut 25 = .ok (.aload_n 0, 1) := by decide +kernel
theorem dX10_cut_26 : decode cX10_cut 26 = .ok (.iload_n 1, 1) := by decide +kernel
theorem dX10_cut_27 : decode cX10_cut 27 = .ok (.putfield 531, 3) := by decide +kernel
theorem dX10_cut_30 : decode cX10_cut 30 = .ok (.iconst 1, 1) := by decide +kernel
theorem dX10_cut_31 : decode cX10_cut 31 = .ok (.ireturn, 1) := by decide +kernel
abbrev cX10_power_2 : ByteArray := prog_15_method_106_code
def yX10_power_2 : MethodName := ⟨RX10, "power", "()I"⟩
theorem dX10_power_2_0 : decode cX10_power_2 0 = .ok (.aload_n 0, 1) := by decide +kernel
theorem dX10_power_2_1 : decode cX10_power_2 1 = .ok (.iconst 0, 1) := by decide +kernel
theorem dX10_power_2_2 : decode cX10_power_2 2 = .ok (.putfield 1, 3) := by decide +kernel
theorem dX10_power_2_5 : decode cX10_power_2 5 = .ok (.aload_n 0, 1) := by decide +kernel
theorem dX10_power_2_6 : decode cX10_power_2 6 = .ok (.iconst 0, 1) := by decide +kernel
theorem dX10_power_2_7 : decode cX10_power_2 7 = .ok (.putfield 704, 3) := by decide +kernel
theorem dX10_power_2_10 : decode cX10_power_2 10 = .ok (.aload_n 0, 1) := by decide +kernel
theorem dX10_power_2_11 : decode cX10_power_2 11 = .ok (.iconst (-1), 1) := by decide +kernel
theorem dX10_power_2_12 : decode cX10_power_2 12 = .ok (.putfield 531, 3) := by decide +kernel
theorem dX10_power_2_15 : decode cX10_power_2 15 = .ok (.aload_n 0, 1) := by decide +kernel
theorem dX10_power_2_16 : decode cX10_power_2 16 = .ok (.invokevirtual 724, 3) := by decide +kernel
theorem dX10_power_2_19 : decode cX10_power_2 19 = .ok (.ireturn, 1) := by decide +kernel
abbrev cX10_spent : ByteArray := prog_15_method_105_code
def yX10_spent : MethodName := ⟨RX10, "spent", "()I"⟩
theorem dX10_spent_0 : decode cX10_spent 0 = .ok (.iconst 0, 1) := by decide +kernel
theorem dX10_spent_1 : decode cX10_spent 1 = .ok (.istore_n 1, 1) := by decide +kernel
theorem dX10_spent_2 : decode cX10_spent 2 = .ok (.iconst 0, 1) := by decide +kernel
theorem dX10_spent_3 : decode cX10_spent 3 = .ok (.istore_n 2, 1) := by decide +kernel
theorem dX10_spent_4 : decode cX10_spent 4 = .ok (.iload_n 2, 1) := by decide +kernel
theorem dX10_spent_5 : decode cX10_spent 5 = .ok (.bipush 112, 2) := by decide +kernel
theorem dX10_spent_7 : decode cX10_spent 7 = .ok (.if_icmp .ge 25, 3) := by decide +kernel
theorem dX10_spent_10 : decode cX10_spent 10 = .ok (.iload_n 1, 1) := by decide +kernel
theorem dX10_spent_11 : decode cX10_spent 11 = .ok (.aload_n 0, 1) := by decide +kernel
theorem dX10_spent_12 : decode cX10_spent 12 = .ok (.iload_n 2, 1) := by decide +kernel
theorem dX10_spent_13 : decode cX10_spent 13 = .ok (.invokevirtual 712, 3) := by decide +kernel
theorem dX10_spent_16 : decode cX10_spent 16 = .ok (.ifCond .eq 7, 3) := by decide +kernel
theorem dX10_spent_19 : decode cX10_spent 19 = .ok (.iconst 0, 1) := by decide +kernel
theorem dX10_spent_20 : decode cX10_spent 20 = .ok (.goto 4, 3) := by decide +kernel
theorem dX10_spent_23 : decode cX10_spent 23 = .ok (.iconst 1, 1) := by decide +kernel
theorem dX10_spent_24 : decode cX10_spent 24 = .ok (.iadd, 1) := by decide +kernel
theorem dX10_spent_25 : decode cX10_spent 25 = .ok (.istore_n 1, 1) := by decide +kernel
theorem dX10_spent_26 : decode cX10_spent 26 = .ok (.iinc 2 1, 3) := by decide +kernel
theorem dX10_spent_29 : decode cX10_spent 29 = .ok (.goto (-25), 3) := by decide +kernel
theorem dX10_spent_32 : decode cX10_spent 32 = .ok (.iload_n 1, 1) := by decide +kernel
theorem dX10_spent_33 : decode cX10_spent 33 = .ok (.ireturn, 1) := by decide +kernel
abbrev cX10_disk : ByteArray := prog_15_method_107_code
def yX10_disk : MethodName := ⟨RX10, "disk", "(I)I"⟩
theorem dX10_disk_0 : decode cX10_disk 0 = .ok (.aload_n 0, 1) := by decide +kernel
theorem dX10_disk_1 : decode cX10_disk 1 = .ok (.iconst 0, 1) := by decide +kernel
theorem dX10_disk_2 : decode cX10_disk 2 = .ok (.putfield 1, 3) := by decide +kernel
theorem dX10_disk_5 : decode cX10_disk 5 = .ok (.iload_n 1, 1) := by decide +kernel
theorem dX10_disk_6 : decode cX10_disk 6 = .ok (.ifCond .lt 10, 3) := by decide +kernel
theorem dX10_disk_9 : decode cX10_disk 9 = .ok (.iload_n 1, 1) := by decide +kernel
theorem dX10_disk_10 : decode cX10_disk 10 = .ok (.sipush 4096, 3) := by decide +kernel
theorem dX10_disk_13 : decode cX10_disk 13 = .ok (.if_icmp .lt 7, 3) := by decide +kernel
theorem dX10_disk_16 : decode cX10_disk 16 = .ok (.iconst (-1), 1) := by decide +kernel
theorem dX10_disk_17 : decode cX10_disk 17 = .ok (.goto 13, 3) := by decide +kernel
theorem dX10_disk_20 : decode cX10_disk 20 = .ok (.aload_n 0, 1) := by decide +kernel
theorem dX10_disk_21 : decode cX10_disk 21 = .ok (.getfield 528, 3) := by decide +kernel
theorem dX10_disk_24 : decode cX10_disk 24 = .ok (.iload_n 1, 1) := by decide +kernel
theorem dX10_disk_25 : decode cX10_disk 25 = .ok (.baload, 1) := by decide +kernel
theorem dX10_disk_26 : decode cX10_disk 26 = .ok (.sipush 255, 3) := by decide +kernel
theorem dX10_disk_29 : decode cX10_disk 29 = .ok (.iand, 1) := by decide +kernel
theorem dX10_disk_30 : decode cX10_disk 30 = .ok (.ireturn, 1) := by decide +kernel
abbrev cX10_count : ByteArray := prog_15_method_108_code
def yX10_count : MethodName := ⟨RX10, "count", "(I)I"⟩
theorem dX10_count_0 : decode cX10_count 0 = .ok (.aload_n 0, 1) := by decide +kernel
theorem dX10_count_1 : decode cX10_count 1 = .ok (.iconst 0, 1) := by decide +kernel
theorem dX10_count_2 : decode cX10_count 2 = .ok (.putfield 1, 3) := by decide +kernel
theorem dX10_count_5 : decode cX10_count 5 = .ok (.iconst 0, 1) := by decide +kernel
theorem dX10_count_6 : decode cX10_count 6 = .ok (.istore_n 2, 1) := by decide +kernel
theorem dX10_count_7 : decode cX10_count 7 = .ok (.iload_n 1, 1) := by decide +kernel
theorem dX10_count_8 : decode cX10_count 8 = .ok (.tableswitch 185 0 9 #[56, 61, 96, 101, 136, 141, 146, 159, 175, 180], 56) := by decide +kernel
theorem dX10_count_64 : decode cX10_count 64 = .ok (.aload_n 0, 1) := by decide +kernel
theorem dX10_count_65 : decode cX10_count 65 = .ok (.getfield 626, 3) := by decide +kernel
theorem dX10_count_68 : decode cX10_count 68 = .ok (.ireturn, 1) := by decide +kernel
theorem dX10_count_69 : decode cX10_count 69 = .ok (.iconst 0, 1) := by decide +kernel
theorem dX10_count_70 : decode cX10_count 70 = .ok (.istore_n 3, 1) := by decide +kernel
theorem dX10_count_71 : decode cX10_count 71 = .ok (.iload_n 3, 1) := by decide +kernel
theorem dX10_count_72 : decode cX10_count 72 = .ok (.aload_n 0, 1) := by decide +kernel
theorem dX10_count_73 : decode cX10_count 73 = .ok (.getfield 626, 3) := by decide +kernel
theorem dX10_count_76 : decode cX10_count 76 = .ok (.if_icmp .ge 26, 3) := by decide +kernel
theorem dX10_count_79 : decode cX10_count 79 = .ok (.iload_n 2, 1) := by decide +kernel
theorem dX10_count_80 : decode cX10_count 80 = .ok (.aload_n 0, 1) := by decide +kernel
theorem dX10_count_81 : decode cX10_count 81 = .ok (.getfield 495, 3) := by decide +kernel
theorem dX10_count_84 : decode cX10_count 84 = .ok (.iload_n 3, 1) := by decide +kernel
theorem dX10_count_85 : decode cX10_count 85 = .ok (.baload, 1) := by decide +kernel
theorem dX10_count_86 : decode cX10_count 86 = .ok (.ifCond .eq 7, 3) := by decide +kernel
theorem dX10_count_89 : decode cX10_count 89 = .ok (.iconst 1, 1) := by decide +kernel
theorem dX10_count_90 : decode cX10_count 90 = .ok (.goto 4, 3) := by decide +kernel
theorem dX10_count_93 : decode cX10_count 93 = .ok (.iconst 0, 1) := by decide +kernel
theorem dX10_count_94 : decode cX10_count 94 = .ok (.iadd, 1) := by decide +kernel
theorem dX10_count_95 : decode cX10_count 95 = .ok (.istore_n 2, 1) := by decide +kernel
theorem dX10_count_96 : decode cX10_count 96 = .ok (.iinc 3 1, 3) := by decide +kernel
theorem dX10_count_99 : decode cX10_count 99 = .ok (.goto (-28), 3) := by decide +kernel
theorem dX10_count_102 : decode cX10_count 102 = .ok (.iload_n 2, 1) := by decide +kernel
theorem dX10_count_103 : decode cX10_count 103 = .ok (.ireturn, 1) := by decide +kernel
theorem dX10_count_104 : decode cX10_count 104 = .ok (.aload_n 0, 1) := by decide +kernel
theorem dX10_count_105 : decode cX10_count 105 = .ok (.getfield 640, 3) := by decide +kernel
theorem dX10_count_108 : decode cX10_count 108 = .ok (.ireturn, 1) := by decide +kernel
theorem dX10_count_109 : decode cX10_count 109 = .ok (.iconst 0, 1) := by decide +kernel
theorem dX10_count_110 : decode cX10_count 110 = .ok (.istore_n 3, 1) := by decide +kernel
theorem dX10_count_111 : decode cX10_count 111 = .ok (.iload_n 3, 1) := by decide +kernel
theorem dX10_count_112 : decode cX10_count 112 = .ok (.aload_n 0, 1) := by decide +kernel
theorem dX10_count_113 : decode cX10_count 113 = .ok (.getfield 640, 3) := by decide +kernel
theorem dX10_count_116 : decode cX10_count 116 = .ok (.if_icmp .ge 26, 3) := by decide +kernel
theorem dX10_count_119 : decode cX10_count 119 = .ok (.iload_n 2, 1) := by decide +kernel
theorem dX10_count_120 : decode cX10_count 120 = .ok (.aload_n 0, 1) := by decide +kernel
theorem dX10_count_121 : decode cX10_count 121 = .ok (.getfield 519, 3) := by decide +kernel
theorem dX10_count_124 : decode cX10_count 124 = .ok (.iload_n 3, 1) := by decide +kernel
theorem dX10_count_125 : decode cX10_count 125 = .ok (.baload, 1) := by decide +kernel
theorem dX10_count_126 : decode cX10_count 126 = .ok (.ifCond .eq 7, 3) := by decide +kernel
theorem dX10_count_129 : decode cX10_count 129 = .ok (.iconst 1, 1) := by decide +kernel
theorem dX10_count_130 : decode cX10_count 130 = .ok (.goto 4, 3) := by decide +kernel
theorem dX10_count_133 : decode cX10_count 133 = .ok (.iconst 0, 1) := by decide +kernel
theorem dX10_count_134 : decode cX10_count 134 = .ok (.iadd, 1) := by decide +kernel
theorem dX10_count_135 : decode cX10_count 135 = .ok (.istore_n 2, 1) := by decide +kernel
theorem dX10_count_136 : decode cX10_count 136 = .ok (.iinc 3 1, 3) := by decide +kernel
theorem dX10_count_139 : decode cX10_count 139 = .ok (.goto (-28), 3) := by decide +kernel
theorem dX10_count_142 : decode cX10_count 142 = .ok (.iload_n 2, 1) := by decide +kernel
theorem dX10_count_143 : decode cX10_count 143 = .ok (.ireturn, 1) := by decide +kernel
theorem dX10_count_144 : decode cX10_count 144 = .ok (.aload_n 0, 1) := by decide +kernel
theorem dX10_count_145 : decode cX10_count 145 = .ok (.invokevirtual 724, 3) := by decide +kernel
theorem dX10_count_148 : decode cX10_count 148 = .ok (.ireturn, 1) := by decide +kernel
theorem dX10_count_149 : decode cX10_count 149 = .ok (.aload_n 0, 1) := by decide +kernel
theorem dX10_count_150 : decode cX10_count 150 = .ok (.getfield 718, 3) := by decide +kernel
theorem dX10_count_153 : decode cX10_count 153 = .ok (.ireturn, 1) := by decide +kernel
theorem dX10_count_154 : decode cX10_count 154 = .ok (.aload_n 0, 1) := by decide +kernel
theorem dX10_count_155 : decode cX10_count 155 = .ok (.getfield 704, 3) := by decide +kernel
theorem dX10_count_158 : decode cX10_count 158 = .ok (.ifCond .eq 7, 3) := by decide +kernel
theorem dX10_count_161 : decode cX10_count 161 = .ok (.iconst 1, 1) := by decide +kernel
theorem dX10_count_162 : decode cX10_count 162 = .ok (.goto 4, 3) := by decide +kernel
theorem dX10_count_165 : decode cX10_count 165 = .ok (.iconst 0, 1) := by decide +kernel
theorem dX10_count_166 : decode cX10_count 166 = .ok (.ireturn, 1) := by decide +kernel
theorem dX10_count_167 : decode cX10_count 167 = .ok (.aload_n 0, 1) := by decide +kernel
theorem dX10_count_168 : decode cX10_count 168 = .ok (.getfield 704, 3) := by decide +kernel
theorem dX10_count_171 : decode cX10_count 171 = .ok (.ifCond .eq 7, 3) := by decide +kernel
theorem dX10_count_174 : decode cX10_count 174 = .ok (.iconst 0, 1) := by decide +kernel
theorem dX10_count_175 : decode cX10_count 175 = .ok (.goto 7, 3) := by decide +kernel
theorem dX10_count_178 : decode cX10_count 178 = .ok (.aload_n 0, 1) := by decide +kernel
theorem dX10_count_179 : decode cX10_count 179 = .ok (.getfield 531, 3) := by decide +kernel
theorem dX10_count_182 : decode cX10_count 182 = .ok (.ireturn, 1) := by decide +kernel
theorem dX10_count_183 : decode cX10_count 183 = .ok (.aload_n 0, 1) := by decide +kernel
theorem dX10_count_184 : decode cX10_count 184 = .ok (.getfield 582, 3) := by decide +kernel
theorem dX10_count_187 : decode cX10_count 187 = .ok (.ireturn, 1) := by decide +kernel
theorem dX10_count_188 : decode cX10_count 188 = .ok (.aload_n 0, 1) := by decide +kernel
theorem dX10_count_189 : decode cX10_count 189 = .ok (.getfield 721, 3) := by decide +kernel
theorem dX10_count_192 : decode cX10_count 192 = .ok (.ireturn, 1) := by decide +kernel
theorem dX10_count_193 : decode cX10_count 193 = .ok (.iconst (-1), 1) := by decide +kernel
theorem dX10_count_194 : decode cX10_count 194 = .ok (.ireturn, 1) := by decide +kernel
theorem q116 : (Jvm.Cond.initialized "VeilMintModel") ∈ lw_all := lw_g (lw_at lw_m1 19 rfl) rfl
theorem q1322 : (Jvm.Cond.instanceMethod ({ cls := "VeilMintModel", name := "thrown", desc := "()I" } : Jvm.MethodName)) ∈ lw_all := lw_g (lw_at lw_m6 25 rfl) rfl
theorem q1323 : (Jvm.Cond.selects "VeilMintModel" ({ cls := "VeilMintModel", name := "thrown", desc := "()I" } : Jvm.MethodName) ({ cls := "VeilMintModel", name := "thrown", desc := "()I" } : Jvm.MethodName)) ∈ lw_all := lw_g (lw_at lw_m6 26 rfl) rfl
theorem q1324 : (Jvm.Cond.code ({ cls := "VeilMintModel", name := "thrown", desc := "()I" } : Jvm.MethodName) prog_15_method_1_code (1 : Nat) (Option.some Jvm.ClassFile.FieldType.int)) ∈ lw_all := lw_g (lw_at lw_m6 27 rfl) rfl
theorem q1326 : (Jvm.Cond.instantiable "VeilMintModel" (96 : Nat)) ∈ lw_all := lw_g (lw_at lw_m6 29 rfl) rfl
theorem q1328 : (Jvm.Cond.instanceMethod ({ cls := "VeilMintModel", name := "<init>", desc := "()V" } : Jvm.MethodName)) ∈ lw_all := lw_g (lw_at lw_m6 31 rfl) rfl
theorem q1329 : (Jvm.Cond.code ({ cls := "VeilMintModel", name := "<init>", desc := "()V" } : Jvm.MethodName) prog_15_method_61_code (2 : Nat) (Option.none : Option Jvm.ClassFile.FieldType)) ∈ lw_all := lw_g (lw_at lw_m6 32 rfl) rfl
theorem q1330 : (Jvm.Cond.methodLink "VeilMintModel" (485 : Nat) ({ cls := "java/lang/Object", name := "<init>", desc := "()V" } : Jvm.MethodName)) ∈ lw_all := lw_g (lw_at lw_m6 33 rfl) rfl
theorem q1331 : (Jvm.Cond.classLink "VeilMintModel" (14 : Nat) "VeilMintModel$Mod") ∈ lw_all := lw_g (lw_at lw_m6 34 rfl) rfl
theorem q1333 : (Jvm.Cond.methodLinkNest "VeilMintModel" (490 : Nat) ({ cls := "VeilMintModel$Mod", name := "<init>", desc := "()V" } : Jvm.MethodName) "VeilMintModel") ∈ lw_tbl := lw_at lw_m6 36 rfl
theorem q1338 : (Jvm.Cond.fieldLinkNest "VeilMintModel" (22 : Nat) "VeilMintModel$Mod" "m" "[I" "VeilMintModel") ∈ lw_tbl := lw_at lw_m6 41 rfl
theorem q1340 : (Jvm.Cond.fieldLinkNest "VeilMintModel" (39 : Nat) "VeilMintModel$Mod" "high" "[I" "VeilMintModel") ∈ lw_tbl := lw_at lw_m6 43 rfl
theorem q1342 : (Jvm.Cond.fieldLinkNest "VeilMintModel" (13 : Nat) "VeilMintModel$Mod" "n" "I" "VeilMintModel") ∈ lw_tbl := lw_at lw_m6 45 rfl
theorem q1344 : (Jvm.Cond.fieldLinkNest "VeilMintModel" (33 : Nat) "VeilMintModel$Mod" "shift" "I" "VeilMintModel") ∈ lw_tbl := lw_at lw_m6 47 rfl
theorem q1354 : (Jvm.Cond.classLink "VeilMintModel" (137 : Nat) "VeilMintModel$Spot") ∈ lw_all := lw_g (lw_at lw_m6 57 rfl) rfl
theorem q1356 : (Jvm.Cond.methodLinkNest "VeilMintModel" (491 : Nat) ({ cls := "VeilMintModel$Spot", name := "<init>", desc := "()V" } : Jvm.MethodName) "VeilMintModel") ∈ lw_tbl := lw_at lw_m6 59 rfl
theorem q1361 : (Jvm.Cond.fieldLinkNest "VeilMintModel" (146 : Nat) "VeilMintModel$Spot" "x" "[I" "VeilMintModel") ∈ lw_tbl := lw_at lw_m6 64 rfl
theorem q1363 : (Jvm.Cond.fieldLinkNest "VeilMintModel" (149 : Nat) "VeilMintModel$Spot" "y" "[I" "VeilMintModel") ∈ lw_tbl := lw_at lw_m6 66 rfl
theorem q1365 : (Jvm.Cond.fieldLinkNest "VeilMintModel" (136 : Nat) "VeilMintModel$Spot" "none" "Z" "VeilMintModel") ∈ lw_tbl := lw_at lw_m6 68 rfl
theorem q1374 : (Jvm.Cond.classLink "VeilMintModel" (502 : Nat) "[[I") ∈ lw_all := lw_g (lw_at lw_m6 77 rfl) rfl
theorem q1377 : (Jvm.Cond.fieldLink "VeilMintModel" (85 : Nat) "VeilMintModel" "P" "[I") ∈ lw_all := lw_g (lw_at lw_m6 80 rfl) rfl
theorem q1378 : (Jvm.Cond.laysStatic "VeilMintModel" "P" "[I") ∈ lw_tbl := lw_at lw_m6 81 rfl
theorem q1379 : (Jvm.Cond.methodLink "VeilMintModel" (573 : Nat) ({ cls := "VeilMintModel$Mod", name := "is", desc := "([II)V" } : Jvm.MethodName)) ∈ lw_all := lw_g (lw_at lw_m6 82 rfl) rfl
theorem q1384 : (Jvm.Cond.fieldLink "VeilMintModel" (236 : Nat) "VeilMintModel" "Q" "[I") ∈ lw_all := lw_g (lw_at lw_m6 87 rfl) rfl
theorem q1385 : (Jvm.Cond.laysStatic "VeilMintModel" "Q" "[I") ∈ lw_tbl := lw_at lw_m6 88 rfl
theorem q1386 : (Jvm.Cond.fieldLink "VeilMintModel" (576 : Nat) "VeilMintModel" "GX" "[I") ∈ lw_all := lw_g (lw_at lw_m6 89 rfl) rfl
theorem q1387 : (Jvm.Cond.laysStatic "VeilMintModel" "GX" "[I") ∈ lw_tbl := lw_at lw_m6 90 rfl
theorem q1388 : (Jvm.Cond.methodLink "VeilMintModel" (91 : Nat) ({ cls := "VeilMintModel", name := "copy", desc := "([I[II)V" } : Jvm.MethodName)) ∈ lw_all := lw_g (lw_at lw_m6 91 rfl) rfl
theorem q1389 : (Jvm.Cond.static ({ cls := "VeilMintModel", name := "copy", desc := "([I[II)V" } : Jvm.MethodName)) ∈ lw_all := lw_g (lw_at lw_m6 92 rfl) rfl
theorem q1390 : (Jvm.Cond.code ({ cls := "VeilMintModel", name := "copy", desc := "([I[II)V" } : Jvm.MethodName) prog_15_method_5_code (4 : Nat) (Option.none : Option Jvm.ClassFile.FieldType)) ∈ lw_all := lw_g (lw_at lw_m6 93 rfl) rfl
theorem q1391 : (Jvm.Cond.fieldLink "VeilMintModel" (579 : Nat) "VeilMintModel" "GY" "[I") ∈ lw_all := lw_g (lw_at lw_m6 94 rfl) rfl
theorem q1392 : (Jvm.Cond.laysStatic "VeilMintModel" "GY" "[I") ∈ lw_tbl := lw_at lw_m6 95 rfl
theorem q1393 : (Jvm.Cond.methodLink "VeilMintModel" (98 : Nat) ({ cls := "VeilMintModel", name := "small", desc := "(I[II)V" } : Jvm.MethodName)) ∈ lw_all := lw_g (lw_at lw_m6 96 rfl) rfl
theorem q1394 : (Jvm.Cond.static ({ cls := "VeilMintModel", name := "small", desc := "(I[II)V" } : Jvm.MethodName)) ∈ lw_all := lw_g (lw_at lw_m6 97 rfl) rfl
theorem q1395 : (Jvm.Cond.code ({ cls := "VeilMintModel", name := "small", desc := "(I[II)V" } : Jvm.MethodName) prog_15_method_6_code (4 : Nat) (Option.none : Option Jvm.ClassFile.FieldType)) ∈ lw_all := lw_g (lw_at lw_m6 98 rfl) rfl
theorem q1396 : (Jvm.Cond.methodLink "VeilMintModel" (18 : Nat) ({ cls := "VeilMintModel", name := "plus", desc := "([I[I[II)I" } : Jvm.MethodName)) ∈ lw_all := lw_g (lw_at lw_m6 99 rfl) rfl
theorem q1397 : (Jvm.Cond.static ({ cls := "VeilMintModel", name := "plus", desc := "([I[I[II)I" } : Jvm.MethodName)) ∈ lw_all := lw_g (lw_at lw_m6 100 rfl) rfl
theorem q1398 : (Jvm.Cond.code ({ cls := "VeilMintModel", name := "plus", desc := "([I[I[II)I" } : Jvm.MethodName) prog_15_method_7_code (7 : Nat) (Option.some Jvm.ClassFile.FieldType.int)) ∈ lw_all := lw_g (lw_at lw_m6 101 rfl) rfl
theorem q1399 : (Jvm.Cond.methodLink "VeilMintModel" (9 : Nat) ({ cls := "VeilMintModel", name := "u", desc := "(I)J" } : Jvm.MethodName)) ∈ lw_all := lw_g (lw_at lw_m6 102 rfl) rfl
theorem q1400 : (Jvm.Cond.static ({ cls := "VeilMintModel", name := "u", desc := "(I)J" } : Jvm.MethodName)) ∈ lw_all := lw_g (lw_at lw_m6 103 rfl) rfl
theorem q1401 : (Jvm.Cond.code ({ cls := "VeilMintModel", name := "u", desc := "(I)J" } : Jvm.MethodName) prog_15_method_2_code (1 : Nat) (Option.some Jvm.ClassFile.FieldType.long)) ∈ lw_all := lw_g (lw_at lw_m6 104 rfl) rfl
theorem q1402 : (Jvm.Cond.constantLong "VeilMintModel" (7 : Nat) (4294967295 : Int64)) ∈ lw_all := lw_g (lw_at lw_m6 105 rfl) rfl
theorem q1403 : (Jvm.Cond.methodLink "VeilMintModel" (106 : Nat) ({ cls := "VeilMintModel", name := "half", desc := "([III)V" } : Jvm.MethodName)) ∈ lw_all := lw_g (lw_at lw_m6 106 rfl) rfl
theorem q1404 : (Jvm.Cond.static ({ cls := "VeilMintModel", name := "half", desc := "([III)V" } : Jvm.MethodName)) ∈ lw_all := lw_g (lw_at lw_m6 107 rfl) rfl
theorem q1405 : (Jvm.Cond.code ({ cls := "VeilMintModel", name := "half", desc := "([III)V" } : Jvm.MethodName) prog_15_method_18_code (4 : Nat) (Option.none : Option Jvm.ClassFile.FieldType)) ∈ lw_all := lw_g (lw_at lw_m6 108 rfl) rfl
theorem q1406 : (Jvm.Cond.methodLink "VeilMintModel" (30 : Nat) ({ cls := "VeilMintModel", name := "minus", desc := "([I[I[II)I" } : Jvm.MethodName)) ∈ lw_all := lw_g (lw_at lw_m6 109 rfl) rfl
theorem q1407 : (Jvm.Cond.static ({ cls := "VeilMintModel", name := "minus", desc := "([I[I[II)I" } : Jvm.MethodName)) ∈ lw_all := lw_g (lw_at lw_m6 110 rfl) rfl
theorem q1408 : (Jvm.Cond.code ({ cls := "VeilMintModel", name := "minus", desc := "([I[I[II)I" } : Jvm.MethodName) prog_15_method_8_code (7 : Nat) (Option.some Jvm.ClassFile.FieldType.int)) ∈ lw_all := lw_g (lw_at lw_m6 111 rfl) rfl
theorem q1409 : (Jvm.Cond.fieldLink "VeilMintModel" (1 : Nat) "VeilMintModel" "thrown" "I") ∈ lw_all := lw_g (lw_at lw_m6 112 rfl) rfl
theorem q1410 : (Jvm.Cond.fieldLink "VeilMintModel" (36 : Nat) "VeilMintModel" "wide" "[I") ∈ lw_all := lw_g (lw_at lw_m6 113 rfl) rfl
theorem q1411 : (Jvm.Cond.fieldLink "VeilMintModel" (73 : Nat) "VeilMintModel" "fold" "[J") ∈ lw_all := lw_g (lw_at lw_m6 114 rfl) rfl
theorem q1412 : (Jvm.Cond.fieldLink "VeilMintModel" (88 : Nat) "VeilMintModel" "base" "[I") ∈ lw_all := lw_g (lw_at lw_m6 115 rfl) rfl
theorem q1413 : (Jvm.Cond.fieldLink "VeilMintModel" (95 : Nat) "VeilMintModel" "result" "[I") ∈ lw_all := lw_g (lw_at lw_m6 116 rfl) rfl
theorem q1414 : (Jvm.Cond.fieldLink "VeilMintModel" (110 : Nat) "VeilMintModel" "left" "[I") ∈ lw_all := lw_g (lw_at lw_m6 117 rfl) rfl
theorem q1415 : (Jvm.Cond.fieldLink "VeilMintModel" (113 : Nat) "VeilMintModel" "right" "[I") ∈ lw_all := lw_g (lw_at lw_m6 118 rfl) rfl
theorem q1416 : (Jvm.Cond.fieldLink "VeilMintModel" (116 : Nat) "VeilMintModel" "one" "[I") ∈ lw_all := lw_g (lw_at lw_m6 119 rfl) rfl
theorem q1417 : (Jvm.Cond.fieldLink "VeilMintModel" (119 : Nat) "VeilMintModel" "two" "[I") ∈ lw_all := lw_g (lw_at lw_m6 120 rfl) rfl
theorem q1418 : (Jvm.Cond.fieldLink "VeilMintModel" (61 : Nat) "VeilMintModel" "p" "LVeilMintModel$Mod;") ∈ lw_all := lw_g (lw_at lw_m6 121 rfl) rfl
theorem q1419 : (Jvm.Cond.fieldLink "VeilMintModel" (360 : Nat) "VeilMintModel" "q" "LVeilMintModel$Mod;") ∈ lw_all := lw_g (lw_at lw_m6 122 rfl) rfl
theorem q1420 : (Jvm.Cond.fieldLink "VeilMintModel" (465 : Nat) "VeilMintModel" "g" "LVeilMintModel$Spot;") ∈ lw_all := lw_g (lw_at lw_m6 123 rfl) rfl
theorem q1421 : (Jvm.Cond.fieldLink "VeilMintModel" (192 : Nat) "VeilMintModel" "walk" "LVeilMintModel$Spot;") ∈ lw_all := lw_g (lw_at lw_m6 124 rfl) rfl
theorem q1422 : (Jvm.Cond.fieldLink "VeilMintModel" (158 : Nat) "VeilMintModel" "slope" "[I") ∈ lw_all := lw_g (lw_at lw_m6 125 rfl) rfl
theorem q1423 : (Jvm.Cond.fieldLink "VeilMintModel" (152 : Nat) "VeilMintModel" "work" "[I") ∈ lw_all := lw_g (lw_at lw_m6 126 rfl) rfl
theorem q1424 : (Jvm.Cond.fieldLink "VeilMintModel" (165 : Nat) "VeilMintModel" "more" "[I") ∈ lw_all := lw_g (lw_at lw_m6 127 rfl) rfl
theorem q1425 : (Jvm.Cond.fieldLink "VeilMintModel" (210 : Nat) "VeilMintModel" "rootPower" "[I") ∈ lw_all := lw_g (lw_at lw_m6 128 rfl) rfl
theorem q1426 : (Jvm.Cond.fieldLink "VeilMintModel" (174 : Nat) "VeilMintModel" "overX" "[I") ∈ lw_all := lw_g (lw_at lw_m6 129 rfl) rfl
theorem q1427 : (Jvm.Cond.fieldLink "VeilMintModel" (180 : Nat) "VeilMintModel" "overY" "[I") ∈ lw_all := lw_g (lw_at lw_m6 130 rfl) rfl
theorem q1428 : (Jvm.Cond.fieldLink "VeilMintModel" (168 : Nat) "VeilMintModel" "under" "[I") ∈ lw_all := lw_g (lw_at lw_m6 131 rfl) rfl
theorem q1429 : (Jvm.Cond.fieldLink "VeilMintModel" (171 : Nat) "VeilMintModel" "one1" "[I") ∈ lw_all := lw_g (lw_at lw_m6 132 rfl) rfl
theorem q1430 : (Jvm.Cond.fieldLink "VeilMintModel" (177 : Nat) "VeilMintModel" "two2" "[I") ∈ lw_all := lw_g (lw_at lw_m6 133 rfl) rfl
theorem q1431 : (Jvm.Cond.fieldLink "VeilMintModel" (183 : Nat) "VeilMintModel" "three" "[I") ∈ lw_all := lw_g (lw_at lw_m6 134 rfl) rfl
theorem q1432 : (Jvm.Cond.fieldLink "VeilMintModel" (186 : Nat) "VeilMintModel" "four" "[I") ∈ lw_all := lw_g (lw_at lw_m6 135 rfl) rfl
theorem q1433 : (Jvm.Cond.fieldLink "VeilMintModel" (207 : Nat) "VeilMintModel" "square" "[I") ∈ lw_all := lw_g (lw_at lw_m6 136 rfl) rfl
theorem q1434 : (Jvm.Cond.fieldLink "VeilMintModel" (239 : Nat) "VeilMintModel" "said" "[B") ∈ lw_all := lw_g (lw_at lw_m6 137 rfl) rfl
theorem q1435 : (Jvm.Cond.fieldLink "VeilMintModel" (243 : Nat) "VeilMintModel" "saidMany" "I") ∈ lw_all := lw_g (lw_at lw_m6 138 rfl) rfl
theorem q1436 : (Jvm.Cond.fieldLink "VeilMintModel" (283 : Nat) "VeilMintModel" "digest" "[B") ∈ lw_all := lw_g (lw_at lw_m6 139 rfl) rfl
theorem q1437 : (Jvm.Cond.fieldLink "VeilMintModel" (274 : Nat) "VeilMintModel" "chain" "[I") ∈ lw_all := lw_g (lw_at lw_m6 140 rfl) rfl
theorem q1438 : (Jvm.Cond.fieldLink "VeilMintModel" (286 : Nat) "VeilMintModel" "schedule" "[I") ∈ lw_all := lw_g (lw_at lw_m6 141 rfl) rfl
theorem q1439 : (Jvm.Cond.fieldLink "VeilMintModel" (296 : Nat) "VeilMintModel" "wideChain" "[J") ∈ lw_all := lw_g (lw_at lw_m6 142 rfl) rfl
theorem q1440 : (Jvm.Cond.fieldLink "VeilMintModel" (305 : Nat) "VeilMintModel" "wideSchedule" "[J") ∈ lw_all := lw_g (lw_at lw_m6 143 rfl) rfl
theorem q1441 : (Jvm.Cond.fieldLink "VeilMintModel" (328 : Nat) "VeilMintModel" "message" "[B") ∈ lw_all := lw_g (lw_at lw_m6 144 rfl) rfl
theorem q1442 : (Jvm.Cond.fieldLink "VeilMintModel" (331 : Nat) "VeilMintModel" "messageMany" "I") ∈ lw_all := lw_g (lw_at lw_m6 145 rfl) rfl
theorem q1443 : (Jvm.Cond.fieldLink "VeilMintModel" (319 : Nat) "VeilMintModel" "tag" "[B") ∈ lw_all := lw_g (lw_at lw_m6 146 rfl) rfl
theorem q1444 : (Jvm.Cond.fieldLink "VeilMintModel" (322 : Nat) "VeilMintModel" "tagMany" "I") ∈ lw_all := lw_g (lw_at lw_m6 147 rfl) rfl
theorem q1445 : (Jvm.Cond.fieldLink "VeilMintModel" (343 : Nat) "VeilMintModel" "first" "[B") ∈ lw_all := lw_g (lw_at lw_m6 148 rfl) rfl
theorem q1446 : (Jvm.Cond.fieldLink "VeilMintModel" (346 : Nat) "VeilMintModel" "mixed" "[B") ∈ lw_all := lw_g (lw_at lw_m6 149 rfl) rfl
theorem q1447 : (Jvm.Cond.fieldLink "VeilMintModel" (349 : Nat) "VeilMintModel" "uniform" "[B") ∈ lw_all := lw_g (lw_at lw_m6 150 rfl) rfl
theorem q1448 : (Jvm.Cond.fieldLink "VeilMintModel" (391 : Nat) "VeilMintModel" "mapped" "LVeilMintModel$Spot;") ∈ lw_all := lw_g (lw_at lw_m6 151 rfl) rfl
theorem q1449 : (Jvm.Cond.fieldLink "VeilMintModel" (366 : Nat) "VeilMintModel" "u" "[I") ∈ lw_all := lw_g (lw_at lw_m6 152 rfl) rfl
theorem q1450 : (Jvm.Cond.fieldLink "VeilMintModel" (368 : Nat) "VeilMintModel" "zu" "[I") ∈ lw_all := lw_g (lw_at lw_m6 153 rfl) rfl
theorem q1451 : (Jvm.Cond.fieldLink "VeilMintModel" (374 : Nat) "VeilMintModel" "t" "[I") ∈ lw_all := lw_g (lw_at lw_m6 154 rfl) rfl
theorem q1452 : (Jvm.Cond.fieldLink "VeilMintModel" (380 : Nat) "VeilMintModel" "other" "[I") ∈ lw_all := lw_g (lw_at lw_m6 155 rfl) rfl
theorem q1453 : (Jvm.Cond.fieldLink "VeilMintModel" (377 : Nat) "VeilMintModel" "minusThree" "[I") ∈ lw_all := lw_g (lw_at lw_m6 156 rfl) rfl
theorem q1454 : (Jvm.Cond.fieldLink "VeilMintModel" (371 : Nat) "VeilMintModel" "minusTwelve" "[I") ∈ lw_all := lw_g (lw_at lw_m6 157 rfl) rfl
theorem q1455 : (Jvm.Cond.fieldLink "VeilMintModel" (385 : Nat) "VeilMintModel" "numberOne" "[I") ∈ lw_all := lw_g (lw_at lw_m6 158 rfl) rfl
theorem q1456 : (Jvm.Cond.fieldLink "VeilMintModel" (388 : Nat) "VeilMintModel" "numberTwo" "[I") ∈ lw_all := lw_g (lw_at lw_m6 159 rfl) rfl
theorem q1457 : (Jvm.Cond.fieldLink "VeilMintModel" (422 : Nat) "VeilMintModel" "asked" "[LVeilMintModel$Spot;") ∈ lw_all := lw_g (lw_at lw_m6 160 rfl) rfl
theorem q1458 : (Jvm.Cond.fieldLink "VeilMintModel" (429 : Nat) "VeilMintModel" "given" "[LVeilMintModel$Spot;") ∈ lw_all := lw_g (lw_at lw_m6 161 rfl) rfl
theorem q1459 : (Jvm.Cond.fieldLink "VeilMintModel" (417 : Nat) "VeilMintModel" "m" "LVeilMintModel$Spot;") ∈ lw_all := lw_g (lw_at lw_m6 162 rfl) rfl
theorem q1460 : (Jvm.Cond.fieldLink "VeilMintModel" (419 : Nat) "VeilMintModel" "z" "LVeilMintModel$Spot;") ∈ lw_all := lw_g (lw_at lw_m6 163 rfl) rfl
theorem q1461 : (Jvm.Cond.fieldLink "VeilMintModel" (450 : Nat) "VeilMintModel" "pointT" "LVeilMintModel$Spot;") ∈ lw_all := lw_g (lw_at lw_m6 164 rfl) rfl
theorem q1462 : (Jvm.Cond.fieldLink "VeilMintModel" (453 : Nat) "VeilMintModel" "pointU" "LVeilMintModel$Spot;") ∈ lw_all := lw_g (lw_at lw_m6 165 rfl) rfl
theorem q1463 : (Jvm.Cond.fieldLink "VeilMintModel" (443 : Nat) "VeilMintModel" "part" "LVeilMintModel$Spot;") ∈ lw_all := lw_g (lw_at lw_m6 166 rfl) rfl
theorem q1464 : (Jvm.Cond.fieldLink "VeilMintModel" (414 : Nat) "VeilMintModel" "seed" "[B") ∈ lw_all := lw_g (lw_at lw_m6 167 rfl) rfl
theorem q1465 : (Jvm.Cond.fieldLink "VeilMintModel" (402 : Nat) "VeilMintModel" "some" "[B") ∈ lw_all := lw_g (lw_at lw_m6 168 rfl) rfl
theorem q1466 : (Jvm.Cond.fieldLink "VeilMintModel" (437 : Nat) "VeilMintModel" "scalar" "[I") ∈ lw_all := lw_g (lw_at lw_m6 169 rfl) rfl
theorem q1467 : (Jvm.Cond.fieldLink "VeilMintModel" (468 : Nat) "VeilMintModel" "proofC" "[I") ∈ lw_all := lw_g (lw_at lw_m6 170 rfl) rfl
theorem q1468 : (Jvm.Cond.fieldLink "VeilMintModel" (479 : Nat) "VeilMintModel" "proofS" "[I") ∈ lw_all := lw_g (lw_at lw_m6 171 rfl) rfl
theorem q1469 : (Jvm.Cond.fieldLink "VeilMintModel" (482 : Nat) "VeilMintModel" "shown" "[I") ∈ lw_all := lw_g (lw_at lw_m6 172 rfl) rfl
theorem q1470 : (Jvm.Cond.fieldLink "VeilMintModel" (492 : Nat) "VeilMintModel" "types" "[I") ∈ lw_all := lw_g (lw_at lw_m6 173 rfl) rfl
theorem q1471 : (Jvm.Cond.fieldLink "VeilMintModel" (495 : Nat) "VeilMintModel" "isLive" "[Z") ∈ lw_all := lw_g (lw_at lw_m6 174 rfl) rfl
theorem q1472 : (Jvm.Cond.fieldLink "VeilMintModel" (499 : Nat) "VeilMintModel" "ids" "[B") ∈ lw_all := lw_g (lw_at lw_m6 175 rfl) rfl
theorem q1473 : (Jvm.Cond.fieldLink "VeilMintModel" (475 : Nat) "VeilMintModel" "secrets" "[[I") ∈ lw_all := lw_g (lw_at lw_m6 176 rfl) rfl
theorem q1474 : (Jvm.Cond.fieldLink "VeilMintModel" (458 : Nat) "VeilMintModel" "publics" "[LVeilMintModel$Spot;") ∈ lw_all := lw_g (lw_at lw_m6 177 rfl) rfl
theorem q1475 : (Jvm.Cond.fieldLink "VeilMintModel" (503 : Nat) "VeilMintModel" "moduli" "[LVeilMintModel$Mod;") ∈ lw_all := lw_g (lw_at lw_m6 178 rfl) rfl
theorem q1476 : (Jvm.Cond.fieldLink "VeilMintModel" (507 : Nat) "VeilMintModel" "exponents" "[I") ∈ lw_all := lw_g (lw_at lw_m6 179 rfl) rfl
theorem q1477 : (Jvm.Cond.fieldLink "VeilMintModel" (510 : Nat) "VeilMintModel" "lengths" "[I") ∈ lw_all := lw_g (lw_at lw_m6 180 rfl) rfl
theorem q1478 : (Jvm.Cond.fieldLink "VeilMintModel" (513 : Nat) "VeilMintModel" "salts" "[I") ∈ lw_all := lw_g (lw_at lw_m6 181 rfl) rfl
theorem q1479 : (Jvm.Cond.fieldLink "VeilMintModel" (626 : Nat) "VeilMintModel" "keys" "I") ∈ lw_all := lw_g (lw_at lw_m6 182 rfl) rfl
theorem q1480 : (Jvm.Cond.fieldLink "VeilMintModel" (516 : Nat) "VeilMintModel" "askedKey" "[I") ∈ lw_all := lw_g (lw_at lw_m6 183 rfl) rfl
theorem q1481 : (Jvm.Cond.fieldLink "VeilMintModel" (519 : Nat) "VeilMintModel" "isOpen" "[Z") ∈ lw_all := lw_g (lw_at lw_m6 184 rfl) rfl
theorem q1482 : (Jvm.Cond.fieldLink "VeilMintModel" (522 : Nat) "VeilMintModel" "inputs" "[B") ∈ lw_all := lw_g (lw_at lw_m6 185 rfl) rfl
theorem q1483 : (Jvm.Cond.fieldLink "VeilMintModel" (525 : Nat) "VeilMintModel" "blinds" "[[I") ∈ lw_all := lw_g (lw_at lw_m6 186 rfl) rfl
theorem q1484 : (Jvm.Cond.fieldLink "VeilMintModel" (640 : Nat) "VeilMintModel" "askings" "I") ∈ lw_all := lw_g (lw_at lw_m6 187 rfl) rfl
theorem q1485 : (Jvm.Cond.fieldLink "VeilMintModel" (528 : Nat) "VeilMintModel" "disk" "[B") ∈ lw_all := lw_g (lw_at lw_m6 188 rfl) rfl
theorem q1486 : (Jvm.Cond.fieldLink "VeilMintModel" (718 : Nat) "VeilMintModel" "written" "I") ∈ lw_all := lw_g (lw_at lw_m6 189 rfl) rfl
theorem q1487 : (Jvm.Cond.fieldLink "VeilMintModel" (531 : Nat) "VeilMintModel" "fuse" "I") ∈ lw_all := lw_g (lw_at lw_m6 190 rfl) rfl
theorem q1488 : (Jvm.Cond.fieldLink "VeilMintModel" (721 : Nat) "VeilMintModel" "redeemed" "I") ∈ lw_all := lw_g (lw_at lw_m6 191 rfl) rfl
theorem q1489 : (Jvm.Cond.fieldLink "VeilMintModel" (704 : Nat) "VeilMintModel" "isDown" "Z") ∈ lw_all := lw_g (lw_at lw_m6 192 rfl) rfl
theorem q1490 : (Jvm.Cond.fieldLink "VeilMintModel" (534 : Nat) "VeilMintModel" "tape" "[B") ∈ lw_all := lw_g (lw_at lw_m6 193 rfl) rfl
theorem q1491 : (Jvm.Cond.fieldLink "VeilMintModel" (582 : Nat) "VeilMintModel" "taped" "I") ∈ lw_all := lw_g (lw_at lw_m6 194 rfl) rfl
theorem q1492 : (Jvm.Cond.fieldLink "VeilMintModel" (537 : Nat) "VeilMintModel" "out" "[B") ∈ lw_all := lw_g (lw_at lw_m6 195 rfl) rfl
theorem q1493 : (Jvm.Cond.fieldLink "VeilMintModel" (606 : Nat) "VeilMintModel" "outMany" "I") ∈ lw_all := lw_g (lw_at lw_m6 196 rfl) rfl
theorem q1494 : (Jvm.Cond.fieldLink "VeilMintModel" (540 : Nat) "VeilMintModel" "encoded" "[B") ∈ lw_all := lw_g (lw_at lw_m6 197 rfl) rfl
theorem q1495 : (Jvm.Cond.fieldLink "VeilMintModel" (543 : Nat) "VeilMintModel" "mask" "[B") ∈ lw_all := lw_g (lw_at lw_m6 198 rfl) rfl
theorem q1496 : (Jvm.Cond.fieldLink "VeilMintModel" (546 : Nat) "VeilMintModel" "inner" "[B") ∈ lw_all := lw_g (lw_at lw_m6 199 rfl) rfl
theorem q1497 : (Jvm.Cond.fieldLink "VeilMintModel" (549 : Nat) "VeilMintModel" "number" "[I") ∈ lw_all := lw_g (lw_at lw_m6 200 rfl) rfl
theorem q1498 : (Jvm.Cond.fieldLink "VeilMintModel" (552 : Nat) "VeilMintModel" "blinded" "[I") ∈ lw_all := lw_g (lw_at lw_m6 201 rfl) rfl
theorem q1499 : (Jvm.Cond.fieldLink "VeilMintModel" (555 : Nat) "VeilMintModel" "checked" "[I") ∈ lw_all := lw_g (lw_at lw_m6 202 rfl) rfl
theorem q1500 : (Jvm.Cond.fieldLink "VeilMintModel" (558 : Nat) "VeilMintModel" "little" "[I") ∈ lw_all := lw_g (lw_at lw_m6 203 rfl) rfl
theorem q1501 : (Jvm.Cond.fieldLink "VeilMintModel" (561 : Nat) "VeilMintModel" "five" "[I") ∈ lw_all := lw_g (lw_at lw_m6 204 rfl) rfl
theorem q1502 : (Jvm.Cond.fieldLink "VeilMintModel" (564 : Nat) "VeilMintModel" "point" "LVeilMintModel$Spot;") ∈ lw_all := lw_g (lw_at lw_m6 205 rfl) rfl
theorem q1503 : (Jvm.Cond.fieldLink "VeilMintModel" (567 : Nat) "VeilMintModel" "nonce" "[I") ∈ lw_all := lw_g (lw_at lw_m6 206 rfl) rfl
theorem q1504 : (Jvm.Cond.fieldLink "VeilMintModel" (570 : Nat) "VeilMintModel" "outputs" "[B") ∈ lw_all := lw_g (lw_at lw_m6 207 rfl) rfl
theorem q1505 : (Jvm.Cond.lays "VeilMintModel" "VeilMintModel" "thrown" "I") ∈ lw_all := lw_g (lw_at lw_m6 208 rfl) rfl
theorem q1506 : (Jvm.Cond.soleField "VeilMintModel" "thrown") ∈ lw_all := lw_g (lw_at lw_m6 209 rfl) rfl
theorem q1507 : (Jvm.Cond.laysFinal "VeilMintModel" "VeilMintModel" "wide" "[I") ∈ lw_all := lw_g (lw_at lw_m6 210 rfl) rfl
theorem q1508 : (Jvm.Cond.soleField "VeilMintModel" "wide") ∈ lw_all := lw_g (lw_at lw_m6 211 rfl) rfl
theorem q1509 : (Jvm.Cond.laysFinal "VeilMintModel" "VeilMintModel" "fold" "[J") ∈ lw_all := lw_g (lw_at lw_m6 212 rfl) rfl
theorem q1510 : (Jvm.Cond.soleField "VeilMintModel" "fold") ∈ lw_all := lw_g (lw_at lw_m6 213 rfl) rfl
theorem q1511 : (Jvm.Cond.laysFinal "VeilMintModel" "VeilMintModel" "base" "[I") ∈ lw_all := lw_g (lw_at lw_m6 214 rfl) rfl
theorem q1512 : (Jvm.Cond.soleField "VeilMintModel" "base") ∈ lw_all := lw_g (lw_at lw_m6 215 rfl) rfl
theorem q1513 : (Jvm.Cond.laysFinal "VeilMintModel" "VeilMintModel" "result" "[I") ∈ lw_all := lw_g (lw_at lw_m6 216 rfl) rfl
theorem q1514 : (Jvm.Cond.soleField "VeilMintModel" "result") ∈ lw_all := lw_g (lw_at lw_m6 217 rfl) rfl
theorem q1515 : (Jvm.Cond.laysFinal "VeilMintModel" "VeilMintModel" "left" "[I") ∈ lw_all := lw_g (lw_at lw_m6 218 rfl) rfl
theorem q1516 : (Jvm.Cond.soleField "VeilMintModel" "left") ∈ lw_all := lw_g (lw_at lw_m6 219 rfl) rfl
theorem q1517 : (Jvm.Cond.laysFinal "VeilMintModel" "VeilMintModel" "right" "[I") ∈ lw_all := lw_g (lw_at lw_m6 220 rfl) rfl
theorem q1518 : (Jvm.Cond.soleField "VeilMintModel" "right") ∈ lw_all := lw_g (lw_at lw_m6 221 rfl) rfl
theorem q1519 : (Jvm.Cond.laysFinal "VeilMintModel" "VeilMintModel" "one" "[I") ∈ lw_all := lw_g (lw_at lw_m6 222 rfl) rfl
theorem q1520 : (Jvm.Cond.soleField "VeilMintModel" "one") ∈ lw_all := lw_g (lw_at lw_m6 223 rfl) rfl
theorem q1521 : (Jvm.Cond.laysFinal "VeilMintModel" "VeilMintModel" "two" "[I") ∈ lw_all := lw_g (lw_at lw_m6 224 rfl) rfl
theorem q1522 : (Jvm.Cond.soleField "VeilMintModel" "two") ∈ lw_all := lw_g (lw_at lw_m6 225 rfl) rfl
theorem q1523 : (Jvm.Cond.laysFinal "VeilMintModel" "VeilMintModel" "p" "LVeilMintModel$Mod;") ∈ lw_all := lw_g (lw_at lw_m6 226 rfl) rfl
theorem q1524 : (Jvm.Cond.soleField "VeilMintModel" "p") ∈ lw_all := lw_g (lw_at lw_m6 227 rfl) rfl
theorem q1525 : (Jvm.Cond.laysFinal "VeilMintModel" "VeilMintModel" "q" "LVeilMintModel$Mod;") ∈ lw_all := lw_g (lw_at lw_m6 228 rfl) rfl
theorem q1526 : (Jvm.Cond.soleField "VeilMintModel" "q") ∈ lw_all := lw_g (lw_at lw_m6 229 rfl) rfl
theorem q1527 : (Jvm.Cond.laysFinal "VeilMintModel" "VeilMintModel" "g" "LVeilMintModel$Spot;") ∈ lw_all := lw_g (lw_at lw_m6 230 rfl) rfl
theorem q1528 : (Jvm.Cond.soleField "VeilMintModel" "g") ∈ lw_all := lw_g (lw_at lw_m6 231 rfl) rfl
theorem q1529 : (Jvm.Cond.laysFinal "VeilMintModel" "VeilMintModel" "walk" "LVeilMintModel$Spot;") ∈ lw_all := lw_g (lw_at lw_m6 232 rfl) rfl
theorem q1530 : (Jvm.Cond.soleField "VeilMintModel" "walk") ∈ lw_all := lw_g (lw_at lw_m6 233 rfl) rfl
theorem q1531 : (Jvm.Cond.laysFinal "VeilMintModel" "VeilMintModel" "slope" "[I") ∈ lw_all := lw_g (lw_at lw_m6 234 rfl) rfl
theorem q1532 : (Jvm.Cond.soleField "VeilMintModel" "slope") ∈ lw_all := lw_g (lw_at lw_m6 235 rfl) rfl
theorem q1533 : (Jvm.Cond.laysFinal "VeilMintModel" "VeilMintModel" "work" "[I") ∈ lw_all := lw_g (lw_at lw_m6 236 rfl) rfl
theorem q1534 : (Jvm.Cond.soleField "VeilMintModel" "work") ∈ lw_all := lw_g (lw_at lw_m6 237 rfl) rfl
theorem q1535 : (Jvm.Cond.laysFinal "VeilMintModel" "VeilMintModel" "more" "[I") ∈ lw_all := lw_g (lw_at lw_m6 238 rfl) rfl
theorem q1536 : (Jvm.Cond.soleField "VeilMintModel" "more") ∈ lw_all := lw_g (lw_at lw_m6 239 rfl) rfl
theorem q1537 : (Jvm.Cond.laysFinal "VeilMintModel" "VeilMintModel" "rootPower" "[I") ∈ lw_all := lw_g (lw_at lw_m7 0 rfl) rfl
theorem q1538 : (Jvm.Cond.soleField "VeilMintModel" "rootPower") ∈ lw_all := lw_g (lw_at lw_m7 1 rfl) rfl
theorem q1539 : (Jvm.Cond.laysFinal "VeilMintModel" "VeilMintModel" "overX" "[I") ∈ lw_all := lw_g (lw_at lw_m7 2 rfl) rfl
theorem q1540 : (Jvm.Cond.soleField "VeilMintModel" "overX") ∈ lw_all := lw_g (lw_at lw_m7 3 rfl) rfl
theorem q1541 : (Jvm.Cond.laysFinal "VeilMintModel" "VeilMintModel" "overY" "[I") ∈ lw_all := lw_g (lw_at lw_m7 4 rfl) rfl
theorem q1542 : (Jvm.Cond.soleField "VeilMintModel" "overY") ∈ lw_all := lw_g (lw_at lw_m7 5 rfl) rfl
theorem q1543 : (Jvm.Cond.laysFinal "VeilMintModel" "VeilMintModel" "under" "[I") ∈ lw_all := lw_g (lw_at lw_m7 6 rfl) rfl
theorem q1544 : (Jvm.Cond.soleField "VeilMintModel" "under") ∈ lw_all := lw_g (lw_at lw_m7 7 rfl) rfl
theorem q1545 : (Jvm.Cond.laysFinal "VeilMintModel" "VeilMintModel" "one1" "[I") ∈ lw_all := lw_g (lw_at lw_m7 8 rfl) rfl
theorem q1546 : (Jvm.Cond.soleField "VeilMintModel" "one1") ∈ lw_all := lw_g (lw_at lw_m7 9 rfl) rfl
theorem q1547 : (Jvm.Cond.laysFinal "VeilMintModel" "VeilMintModel" "two2" "[I") ∈ lw_all := lw_g (lw_at lw_m7 10 rfl) rfl
theorem q1548 : (Jvm.Cond.soleField "VeilMintModel" "two2") ∈ lw_all := lw_g (lw_at lw_m7 11 rfl) rfl
theorem q1549 : (Jvm.Cond.laysFinal "VeilMintModel" "VeilMintModel" "three" "[I") ∈ lw_all := lw_g (lw_at lw_m7 12 rfl) rfl
theorem q1550 : (Jvm.Cond.soleField "VeilMintModel" "three") ∈ lw_all := lw_g (lw_at lw_m7 13 rfl) rfl
theorem q1551 : (Jvm.Cond.laysFinal "VeilMintModel" "VeilMintModel" "four" "[I") ∈ lw_all := lw_g (lw_at lw_m7 14 rfl) rfl
theorem q1552 : (Jvm.Cond.soleField "VeilMintModel" "four") ∈ lw_all := lw_g (lw_at lw_m7 15 rfl) rfl
theorem q1553 : (Jvm.Cond.laysFinal "VeilMintModel" "VeilMintModel" "square" "[I") ∈ lw_all := lw_g (lw_at lw_m7 16 rfl) rfl
theorem q1554 : (Jvm.Cond.soleField "VeilMintModel" "square") ∈ lw_all := lw_g (lw_at lw_m7 17 rfl) rfl
theorem q1555 : (Jvm.Cond.laysFinal "VeilMintModel" "VeilMintModel" "said" "[B") ∈ lw_all := lw_g (lw_at lw_m7 18 rfl) rfl
theorem q1556 : (Jvm.Cond.soleField "VeilMintModel" "said") ∈ lw_all := lw_g (lw_at lw_m7 19 rfl) rfl
theorem q1557 : (Jvm.Cond.lays "VeilMintModel" "VeilMintModel" "saidMany" "I") ∈ lw_all := lw_g (lw_at lw_m7 20 rfl) rfl
theorem q1558 : (Jvm.Cond.soleField "VeilMintModel" "saidMany") ∈ lw_all := lw_g (lw_at lw_m7 21 rfl) rfl
theorem q1559 : (Jvm.Cond.laysFinal "VeilMintModel" "VeilMintModel" "digest" "[B") ∈ lw_all := lw_g (lw_at lw_m7 22 rfl) rfl
theorem q1560 : (Jvm.Cond.soleField "VeilMintModel" "digest") ∈ lw_all := lw_g (lw_at lw_m7 23 rfl) rfl
theorem q1561 : (Jvm.Cond.laysFinal "VeilMintModel" "VeilMintModel" "chain" "[I") ∈ lw_all := lw_g (lw_at lw_m7 24 rfl) rfl
theorem q1562 : (Jvm.Cond.soleField "VeilMintModel" "chain") ∈ lw_all := lw_g (lw_at lw_m7 25 rfl) rfl
theorem q1563 : (Jvm.Cond.laysFinal "VeilMintModel" "VeilMintModel" "schedule" "[I") ∈ lw_all := lw_g (lw_at lw_m7 26 rfl) rfl
theorem q1564 : (Jvm.Cond.soleField "VeilMintModel" "schedule") ∈ lw_all := lw_g (lw_at lw_m7 27 rfl) rfl
theorem q1565 : (Jvm.Cond.laysFinal "VeilMintModel" "VeilMintModel" "wideChain" "[J") ∈ lw_all := lw_g (lw_at lw_m7 28 rfl) rfl
theorem q1566 : (Jvm.Cond.soleField "VeilMintModel" "wideChain") ∈ lw_all := lw_g (lw_at lw_m7 29 rfl) rfl
theorem q1567 : (Jvm.Cond.laysFinal "VeilMintModel" "VeilMintModel" "wideSchedule" "[J") ∈ lw_all := lw_g (lw_at lw_m7 30 rfl) rfl
theorem q1568 : (Jvm.Cond.soleField "VeilMintModel" "wideSchedule") ∈ lw_all := lw_g (lw_at lw_m7 31 rfl) rfl
theorem q1569 : (Jvm.Cond.laysFinal "VeilMintModel" "VeilMintModel" "message" "[B") ∈ lw_all := lw_g (lw_at lw_m7 32 rfl) rfl
theorem q1570 : (Jvm.Cond.soleField "VeilMintModel" "message") ∈ lw_all := lw_g (lw_at lw_m7 33 rfl) rfl
theorem q1571 : (Jvm.Cond.lays "VeilMintModel" "VeilMintModel" "messageMany" "I") ∈ lw_all := lw_g (lw_at lw_m7 34 rfl) rfl
theorem q1572 : (Jvm.Cond.soleField "VeilMintModel" "messageMany") ∈ lw_all := lw_g (lw_at lw_m7 35 rfl) rfl
theorem q1573 : (Jvm.Cond.laysFinal "VeilMintModel" "VeilMintModel" "tag" "[B") ∈ lw_all := lw_g (lw_at lw_m7 36 rfl) rfl
theorem q1574 : (Jvm.Cond.soleField "VeilMintModel" "tag") ∈ lw_all := lw_g (lw_at lw_m7 37 rfl) rfl
theorem q1575 : (Jvm.Cond.lays "VeilMintModel" "VeilMintModel" "tagMany" "I") ∈ lw_all := lw_g (lw_at lw_m7 38 rfl) rfl
theorem q1576 : (Jvm.Cond.soleField "VeilMintModel" "tagMany") ∈ lw_all := lw_g (lw_at lw_m7 39 rfl) rfl
theorem q1577 : (Jvm.Cond.laysFinal "VeilMintModel" "VeilMintModel" "first" "[B") ∈ lw_all := lw_g (lw_at lw_m7 40 rfl) rfl
theorem q1578 : (Jvm.Cond.soleField "VeilMintModel" "first") ∈ lw_all := lw_g (lw_at lw_m7 41 rfl) rfl
theorem q1579 : (Jvm.Cond.laysFinal "VeilMintModel" "VeilMintModel" "mixed" "[B") ∈ lw_all := lw_g (lw_at lw_m7 42 rfl) rfl
theorem q1580 : (Jvm.Cond.soleField "VeilMintModel" "mixed") ∈ lw_all := lw_g (lw_at lw_m7 43 rfl) rfl
theorem q1581 : (Jvm.Cond.laysFinal "VeilMintModel" "VeilMintModel" "uniform" "[B") ∈ lw_all := lw_g (lw_at lw_m7 44 rfl) rfl
theorem q1582 : (Jvm.Cond.soleField "VeilMintModel" "uniform") ∈ lw_all := lw_g (lw_at lw_m7 45 rfl) rfl
theorem q1583 : (Jvm.Cond.laysFinal "VeilMintModel" "VeilMintModel" "mapped" "LVeilMintModel$Spot;") ∈ lw_all := lw_g (lw_at lw_m7 46 rfl) rfl
theorem q1584 : (Jvm.Cond.soleField "VeilMintModel" "mapped") ∈ lw_all := lw_g (lw_at lw_m7 47 rfl) rfl
theorem q1585 : (Jvm.Cond.laysFinal "VeilMintModel" "VeilMintModel" "u" "[I") ∈ lw_all := lw_g (lw_at lw_m7 48 rfl) rfl
theorem q1586 : (Jvm.Cond.soleField "VeilMintModel" "u") ∈ lw_all := lw_g (lw_at lw_m7 49 rfl) rfl
theorem q1587 : (Jvm.Cond.laysFinal "VeilMintModel" "VeilMintModel" "zu" "[I") ∈ lw_all := lw_g (lw_at lw_m7 50 rfl) rfl
theorem q1588 : (Jvm.Cond.soleField "VeilMintModel" "zu") ∈ lw_all := lw_g (lw_at lw_m7 51 rfl) rfl
theorem q1589 : (Jvm.Cond.laysFinal "VeilMintModel" "VeilMintModel" "t" "[I") ∈ lw_all := lw_g (lw_at lw_m7 52 rfl) rfl
theorem q1590 : (Jvm.Cond.soleField "VeilMintModel" "t") ∈ lw_all := lw_g (lw_at lw_m7 53 rfl) rfl
theorem q1591 : (Jvm.Cond.laysFinal "VeilMintModel" "VeilMintModel" "other" "[I") ∈ lw_all := lw_g (lw_at lw_m7 54 rfl) rfl
theorem q1592 : (Jvm.Cond.soleField "VeilMintModel" "other") ∈ lw_all := lw_g (lw_at lw_m7 55 rfl) rfl
theorem q1593 : (Jvm.Cond.laysFinal "VeilMintModel" "VeilMintModel" "minusThree" "[I") ∈ lw_all := lw_g (lw_at lw_m7 56 rfl) rfl
theorem q1594 : (Jvm.Cond.soleField "VeilMintModel" "minusThree") ∈ lw_all := lw_g (lw_at lw_m7 57 rfl) rfl
theorem q1595 : (Jvm.Cond.laysFinal "VeilMintModel" "VeilMintModel" "minusTwelve" "[I") ∈ lw_all := lw_g (lw_at lw_m7 58 rfl) rfl
theorem q1596 : (Jvm.Cond.soleField "VeilMintModel" "minusTwelve") ∈ lw_all := lw_g (lw_at lw_m7 59 rfl) rfl
theorem q1597 : (Jvm.Cond.laysFinal "VeilMintModel" "VeilMintModel" "numberOne" "[I") ∈ lw_all := lw_g (lw_at lw_m7 60 rfl) rfl
theorem q1598 : (Jvm.Cond.soleField "VeilMintModel" "numberOne") ∈ lw_all := lw_g (lw_at lw_m7 61 rfl) rfl
theorem q1599 : (Jvm.Cond.laysFinal "VeilMintModel" "VeilMintModel" "numberTwo" "[I") ∈ lw_all := lw_g (lw_at lw_m7 62 rfl) rfl
theorem q1600 : (Jvm.Cond.soleField "VeilMintModel" "numberTwo") ∈ lw_all := lw_g (lw_at lw_m7 63 rfl) rfl
theorem q1601 : (Jvm.Cond.laysFinal "VeilMintModel" "VeilMintModel" "asked" "[LVeilMintModel$Spot;") ∈ lw_all := lw_g (lw_at lw_m7 64 rfl) rfl
theorem q1602 : (Jvm.Cond.soleField "VeilMintModel" "asked") ∈ lw_all := lw_g (lw_at lw_m7 65 rfl) rfl
theorem q1603 : (Jvm.Cond.laysFinal "VeilMintModel" "VeilMintModel" "given" "[LVeilMintModel$Spot;") ∈ lw_all := lw_g (lw_at lw_m7 66 rfl) rfl
theorem q1604 : (Jvm.Cond.soleField "VeilMintModel" "given") ∈ lw_all := lw_g (lw_at lw_m7 67 rfl) rfl
theorem q1605 : (Jvm.Cond.laysFinal "VeilMintModel" "VeilMintModel" "m" "LVeilMintModel$Spot;") ∈ lw_all := lw_g (lw_at lw_m7 68 rfl) rfl
theorem q1606 : (Jvm.Cond.soleField "VeilMintModel" "m") ∈ lw_all := lw_g (lw_at lw_m7 69 rfl) rfl
theorem q1607 : (Jvm.Cond.laysFinal "VeilMintModel" "VeilMintModel" "z" "LVeilMintModel$Spot;") ∈ lw_all := lw_g (lw_at lw_m7 70 rfl) rfl
theorem q1608 : (Jvm.Cond.soleField "VeilMintModel" "z") ∈ lw_all := lw_g (lw_at lw_m7 71 rfl) rfl
theorem q1609 : (Jvm.Cond.laysFinal "VeilMintModel" "VeilMintModel" "pointT" "LVeilMintModel$Spot;") ∈ lw_all := lw_g (lw_at lw_m7 72 rfl) rfl
theorem q1610 : (Jvm.Cond.soleField "VeilMintModel" "pointT") ∈ lw_all := lw_g (lw_at lw_m7 73 rfl) rfl
theorem q1611 : (Jvm.Cond.laysFinal "VeilMintModel" "VeilMintModel" "pointU" "LVeilMintModel$Spot;") ∈ lw_all := lw_g (lw_at lw_m7 74 rfl) rfl
theorem q1612 : (Jvm.Cond.soleField "VeilMintModel" "pointU") ∈ lw_all := lw_g (lw_at lw_m7 75 rfl) rfl
theorem q1613 : (Jvm.Cond.laysFinal "VeilMintModel" "VeilMintModel" "part" "LVeilMintModel$Spot;") ∈ lw_all := lw_g (lw_at lw_m7 76 rfl) rfl
theorem q1614 : (Jvm.Cond.soleField "VeilMintModel" "part") ∈ lw_all := lw_g (lw_at lw_m7 77 rfl) rfl
theorem q1615 : (Jvm.Cond.laysFinal "VeilMintModel" "VeilMintModel" "seed" "[B") ∈ lw_all := lw_g (lw_at lw_m7 78 rfl) rfl
theorem q1616 : (Jvm.Cond.soleField "VeilMintModel" "seed") ∈ lw_all := lw_g (lw_at lw_m7 79 rfl) rfl
theorem q1617 : (Jvm.Cond.laysFinal "VeilMintModel" "VeilMintModel" "some" "[B") ∈ lw_all := lw_g (lw_at lw_m7 80 rfl) rfl
theorem q1618 : (Jvm.Cond.soleField "VeilMintModel" "some") ∈ lw_all := lw_g (lw_at lw_m7 81 rfl) rfl
theorem q1619 : (Jvm.Cond.laysFinal "VeilMintModel" "VeilMintModel" "scalar" "[I") ∈ lw_all := lw_g (lw_at lw_m7 82 rfl) rfl
theorem q1620 : (Jvm.Cond.soleField "VeilMintModel" "scalar") ∈ lw_all := lw_g (lw_at lw_m7 83 rfl) rfl
theorem q1621 : (Jvm.Cond.laysFinal "VeilMintModel" "VeilMintModel" "proofC" "[I") ∈ lw_all := lw_g (lw_at lw_m7 84 rfl) rfl
theorem q1622 : (Jvm.Cond.soleField "VeilMintModel" "proofC") ∈ lw_all := lw_g (lw_at lw_m7 85 rfl) rfl
theorem q1623 : (Jvm.Cond.laysFinal "VeilMintModel" "VeilMintModel" "proofS" "[I") ∈ lw_all := lw_g (lw_at lw_m7 86 rfl) rfl
theorem q1624 : (Jvm.Cond.soleField "VeilMintModel" "proofS") ∈ lw_all := lw_g (lw_at lw_m7 87 rfl) rfl
theorem q1625 : (Jvm.Cond.laysFinal "VeilMintModel" "VeilMintModel" "shown" "[I") ∈ lw_all := lw_g (lw_at lw_m7 88 rfl) rfl
theorem q1626 : (Jvm.Cond.soleField "VeilMintModel" "shown") ∈ lw_all := lw_g (lw_at lw_m7 89 rfl) rfl
theorem q1627 : (Jvm.Cond.laysFinal "VeilMintModel" "VeilMintModel" "types" "[I") ∈ lw_all := lw_g (lw_at lw_m7 90 rfl) rfl
theorem q1628 : (Jvm.Cond.soleField "VeilMintModel" "types") ∈ lw_all := lw_g (lw_at lw_m7 91 rfl) rfl
theorem q1629 : (Jvm.Cond.laysFinal "VeilMintModel" "VeilMintModel" "isLive" "[Z") ∈ lw_all := lw_g (lw_at lw_m7 92 rfl) rfl
theorem q1630 : (Jvm.Cond.soleField "VeilMintModel" "isLive") ∈ lw_all := lw_g (lw_at lw_m7 93 rfl) rfl
theorem q1631 : (Jvm.Cond.laysFinal "VeilMintModel" "VeilMintModel" "ids" "[B") ∈ lw_all := lw_g (lw_at lw_m7 94 rfl) rfl
theorem q1632 : (Jvm.Cond.soleField "VeilMintModel" "ids") ∈ lw_all := lw_g (lw_at lw_m7 95 rfl) rfl
theorem q1633 : (Jvm.Cond.laysFinal "VeilMintModel" "VeilMintModel" "secrets" "[[I") ∈ lw_all := lw_g (lw_at lw_m7 96 rfl) rfl
theorem q1634 : (Jvm.Cond.soleField "VeilMintModel" "secrets") ∈ lw_all := lw_g (lw_at lw_m7 97 rfl) rfl
theorem q1635 : (Jvm.Cond.laysFinal "VeilMintModel" "VeilMintModel" "publics" "[LVeilMintModel$Spot;") ∈ lw_all := lw_g (lw_at lw_m7 98 rfl) rfl
theorem q1636 : (Jvm.Cond.soleField "VeilMintModel" "publics") ∈ lw_all := lw_g (lw_at lw_m7 99 rfl) rfl
theorem q1637 : (Jvm.Cond.laysFinal "VeilMintModel" "VeilMintModel" "moduli" "[LVeilMintModel$Mod;") ∈ lw_all := lw_g (lw_at lw_m7 100 rfl) rfl
theorem q1638 : (Jvm.Cond.soleField "VeilMintModel" "moduli") ∈ lw_all := lw_g (lw_at lw_m7 101 rfl) rfl
theorem q1639 : (Jvm.Cond.laysFinal "VeilMintModel" "VeilMintModel" "exponents" "[I") ∈ lw_all := lw_g (lw_at lw_m7 102 rfl) rfl
theorem q1640 : (Jvm.Cond.soleField "VeilMintModel" "exponents") ∈ lw_all := lw_g (lw_at lw_m7 103 rfl) rfl
theorem q1641 : (Jvm.Cond.laysFinal "VeilMintModel" "VeilMintModel" "lengths" "[I") ∈ lw_all := lw_g (lw_at lw_m7 104 rfl) rfl
theorem q1642 : (Jvm.Cond.soleField "VeilMintModel" "lengths") ∈ lw_all := lw_g (lw_at lw_m7 105 rfl) rfl
theorem q1643 : (Jvm.Cond.laysFinal "VeilMintModel" "VeilMintModel" "salts" "[I") ∈ lw_all := lw_g (lw_at lw_m7 106 rfl) rfl
theorem q1644 : (Jvm.Cond.soleField "VeilMintModel" "salts") ∈ lw_all := lw_g (lw_at lw_m7 107 rfl) rfl
theorem q1645 : (Jvm.Cond.lays "VeilMintModel" "VeilMintModel" "keys" "I") ∈ lw_all := lw_g (lw_at lw_m7 108 rfl) rfl
theorem q1646 : (Jvm.Cond.soleField "VeilMintModel" "keys") ∈ lw_all := lw_g (lw_at lw_m7 109 rfl) rfl
theorem q1647 : (Jvm.Cond.laysFinal "VeilMintModel" "VeilMintModel" "askedKey" "[I") ∈ lw_all := lw_g (lw_at lw_m7 110 rfl) rfl
theorem q1648 : (Jvm.Cond.soleField "VeilMintModel" "askedKey") ∈ lw_all := lw_g (lw_at lw_m7 111 rfl) rfl
theorem q1649 : (Jvm.Cond.laysFinal "VeilMintModel" "VeilMintModel" "isOpen" "[Z") ∈ lw_all := lw_g (lw_at lw_m7 112 rfl) rfl
theorem q1650 : (Jvm.Cond.soleField "VeilMintModel" "isOpen") ∈ lw_all := lw_g (lw_at lw_m7 113 rfl) rfl
theorem q1651 : (Jvm.Cond.laysFinal "VeilMintModel" "VeilMintModel" "inputs" "[B") ∈ lw_all := lw_g (lw_at lw_m7 114 rfl) rfl
theorem q1652 : (Jvm.Cond.soleField "VeilMintModel" "inputs") ∈ lw_all := lw_g (lw_at lw_m7 115 rfl) rfl
theorem q1653 : (Jvm.Cond.laysFinal "VeilMintModel" "VeilMintModel" "blinds" "[[I") ∈ lw_all := lw_g (lw_at lw_m7 116 rfl) rfl
theorem q1654 : (Jvm.Cond.soleField "VeilMintModel" "blinds") ∈ lw_all := lw_g (lw_at lw_m7 117 rfl) rfl
theorem q1655 : (Jvm.Cond.lays "VeilMintModel" "VeilMintModel" "askings" "I") ∈ lw_all := lw_g (lw_at lw_m7 118 rfl) rfl
theorem q1656 : (Jvm.Cond.soleField "VeilMintModel" "askings") ∈ lw_all := lw_g (lw_at lw_m7 119 rfl) rfl
theorem q1657 : (Jvm.Cond.laysFinal "VeilMintModel" "VeilMintModel" "disk" "[B") ∈ lw_all := lw_g (lw_at lw_m7 120 rfl) rfl
theorem q1658 : (Jvm.Cond.soleField "VeilMintModel" "disk") ∈ lw_all := lw_g (lw_at lw_m7 121 rfl) rfl
theorem q1659 : (Jvm.Cond.lays "VeilMintModel" "VeilMintModel" "written" "I") ∈ lw_all := lw_g (lw_at lw_m7 122 rfl) rfl
theorem q1660 : (Jvm.Cond.soleField "VeilMintModel" "written") ∈ lw_all := lw_g (lw_at lw_m7 123 rfl) rfl
theorem q1661 : (Jvm.Cond.lays "VeilMintModel" "VeilMintModel" "fuse" "I") ∈ lw_all := lw_g (lw_at lw_m7 124 rfl) rfl
theorem q1662 : (Jvm.Cond.soleField "VeilMintModel" "fuse") ∈ lw_all := lw_g (lw_at lw_m7 125 rfl) rfl
theorem q1663 : (Jvm.Cond.lays "VeilMintModel" "VeilMintModel" "redeemed" "I") ∈ lw_all := lw_g (lw_at lw_m7 126 rfl) rfl
theorem q1664 : (Jvm.Cond.soleField "VeilMintModel" "redeemed") ∈ lw_all := lw_g (lw_at lw_m7 127 rfl) rfl
theorem q1665 : (Jvm.Cond.lays "VeilMintModel" "VeilMintModel" "isDown" "Z") ∈ lw_all := lw_g (lw_at lw_m7 128 rfl) rfl
theorem q1666 : (Jvm.Cond.soleField "VeilMintModel" "isDown") ∈ lw_all := lw_g (lw_at lw_m7 129 rfl) rfl
theorem q1667 : (Jvm.Cond.laysFinal "VeilMintModel" "VeilMintModel" "tape" "[B") ∈ lw_all := lw_g (lw_at lw_m7 130 rfl) rfl
theorem q1668 : (Jvm.Cond.soleField "VeilMintModel" "tape") ∈ lw_all := lw_g (lw_at lw_m7 131 rfl) rfl
theorem q1669 : (Jvm.Cond.lays "VeilMintModel" "VeilMintModel" "taped" "I") ∈ lw_all := lw_g (lw_at lw_m7 132 rfl) rfl
theorem q1670 : (Jvm.Cond.soleField "VeilMintModel" "taped") ∈ lw_all := lw_g (lw_at lw_m7 133 rfl) rfl
theorem q1671 : (Jvm.Cond.laysFinal "VeilMintModel" "VeilMintModel" "out" "[B") ∈ lw_all := lw_g (lw_at lw_m7 134 rfl) rfl
theorem q1672 : (Jvm.Cond.soleField "VeilMintModel" "out") ∈ lw_all := lw_g (lw_at lw_m7 135 rfl) rfl
theorem q1673 : (Jvm.Cond.lays "VeilMintModel" "VeilMintModel" "outMany" "I") ∈ lw_all := lw_g (lw_at lw_m7 136 rfl) rfl
theorem q1674 : (Jvm.Cond.soleField "VeilMintModel" "outMany") ∈ lw_all := lw_g (lw_at lw_m7 137 rfl) rfl
theorem q1675 : (Jvm.Cond.laysFinal "VeilMintModel" "VeilMintModel" "encoded" "[B") ∈ lw_all := lw_g (lw_at lw_m7 138 rfl) rfl
theorem q1676 : (Jvm.Cond.soleField "VeilMintModel" "encoded") ∈ lw_all := lw_g (lw_at lw_m7 139 rfl) rfl
theorem q1677 : (Jvm.Cond.laysFinal "VeilMintModel" "VeilMintModel" "mask" "[B") ∈ lw_all := lw_g (lw_at lw_m7 140 rfl) rfl
theorem q1678 : (Jvm.Cond.soleField "VeilMintModel" "mask") ∈ lw_all := lw_g (lw_at lw_m7 141 rfl) rfl
theorem q1679 : (Jvm.Cond.laysFinal "VeilMintModel" "VeilMintModel" "inner" "[B") ∈ lw_all := lw_g (lw_at lw_m7 142 rfl) rfl
theorem q1680 : (Jvm.Cond.soleField "VeilMintModel" "inner") ∈ lw_all := lw_g (lw_at lw_m7 143 rfl) rfl
theorem q1681 : (Jvm.Cond.laysFinal "VeilMintModel" "VeilMintModel" "number" "[I") ∈ lw_all := lw_g (lw_at lw_m7 144 rfl) rfl
theorem q1682 : (Jvm.Cond.soleField "VeilMintModel" "number") ∈ lw_all := lw_g (lw_at lw_m7 145 rfl) rfl
theorem q1683 : (Jvm.Cond.laysFinal "VeilMintModel" "VeilMintModel" "blinded" "[I") ∈ lw_all := lw_g (lw_at lw_m7 146 rfl) rfl
theorem q1684 : (Jvm.Cond.soleField "VeilMintModel" "blinded") ∈ lw_all := lw_g (lw_at lw_m7 147 rfl) rfl
theorem q1685 : (Jvm.Cond.laysFinal "VeilMintModel" "VeilMintModel" "checked" "[I") ∈ lw_all := lw_g (lw_at lw_m7 148 rfl) rfl
theorem q1686 : (Jvm.Cond.soleField "VeilMintModel" "checked") ∈ lw_all := lw_g (lw_at lw_m7 149 rfl) rfl
theorem q1687 : (Jvm.Cond.laysFinal "VeilMintModel" "VeilMintModel" "little" "[I") ∈ lw_all := lw_g (lw_at lw_m7 150 rfl) rfl
theorem q1688 : (Jvm.Cond.soleField "VeilMintModel" "little") ∈ lw_all := lw_g (lw_at lw_m7 151 rfl) rfl
theorem q1689 : (Jvm.Cond.laysFinal "VeilMintModel" "VeilMintModel" "five" "[I") ∈ lw_all := lw_g (lw_at lw_m7 152 rfl) rfl
theorem q1690 : (Jvm.Cond.soleField "VeilMintModel" "five") ∈ lw_all := lw_g (lw_at lw_m7 153 rfl) rfl
theorem q1691 : (Jvm.Cond.laysFinal "VeilMintModel" "VeilMintModel" "point" "LVeilMintModel$Spot;") ∈ lw_all := lw_g (lw_at lw_m7 154 rfl) rfl
theorem q1692 : (Jvm.Cond.soleField "VeilMintModel" "point") ∈ lw_all := lw_g (lw_at lw_m7 155 rfl) rfl
theorem q1693 : (Jvm.Cond.laysFinal "VeilMintModel" "VeilMintModel" "nonce" "[I") ∈ lw_all := lw_g (lw_at lw_m7 156 rfl) rfl
theorem q1694 : (Jvm.Cond.soleField "VeilMintModel" "nonce") ∈ lw_all := lw_g (lw_at lw_m7 157 rfl) rfl
theorem q1695 : (Jvm.Cond.laysFinal "VeilMintModel" "VeilMintModel" "outputs" "[B") ∈ lw_all := lw_g (lw_at lw_m7 158 rfl) rfl
theorem q1696 : (Jvm.Cond.soleField "VeilMintModel" "outputs") ∈ lw_all := lw_g (lw_at lw_m7 159 rfl) rfl
theorem q1697 : (Jvm.Cond.superclass "VeilMintModel" "java/lang/Object") ∈ lw_all := lw_g (lw_at lw_m7 160 rfl) rfl
theorem q1700 : (Jvm.Cond.instanceMethod ({ cls := "VeilMintModel", name := "feed", desc := "(IIIII)I" } : Jvm.MethodName)) ∈ lw_all := lw_g (lw_at lw_m7 163 rfl) rfl
theorem q1701 : (Jvm.Cond.selects "VeilMintModel" ({ cls := "VeilMintModel", name := "feed", desc := "(IIIII)I" } : Jvm.MethodName) ({ cls := "VeilMintModel", name := "feed", desc := "(IIIII)I" } : Jvm.MethodName)) ∈ lw_all := lw_g (lw_at lw_m7 164 rfl) rfl
theorem q1702 : (Jvm.Cond.code ({ cls := "VeilMintModel", name := "feed", desc := "(IIIII)I" } : Jvm.MethodName) prog_15_method_70_code (7 : Nat) (Option.some Jvm.ClassFile.FieldType.int)) ∈ lw_all := lw_g (lw_at lw_m7 165 rfl) rfl
theorem q1704 : (Jvm.Cond.instanceMethod ({ cls := "VeilMintModel", name := "end", desc := "(I)Z" } : Jvm.MethodName)) ∈ lw_all := lw_g (lw_at lw_m7 167 rfl) rfl
theorem q1705 : (Jvm.Cond.selects "VeilMintModel" ({ cls := "VeilMintModel", name := "end", desc := "(I)Z" } : Jvm.MethodName) ({ cls := "VeilMintModel", name := "end", desc := "(I)Z" } : Jvm.MethodName)) ∈ lw_all := lw_g (lw_at lw_m7 168 rfl) rfl
theorem q1706 : (Jvm.Cond.code ({ cls := "VeilMintModel", name := "end", desc := "(I)Z" } : Jvm.MethodName) prog_15_method_71_code (2 : Nat) (Option.some Jvm.ClassFile.FieldType.boolean)) ∈ lw_all := lw_g (lw_at lw_m7 169 rfl) rfl
theorem q1708 : (Jvm.Cond.instanceMethod ({ cls := "VeilMintModel", name := "again", desc := "(II)I" } : Jvm.MethodName)) ∈ lw_all := lw_g (lw_at lw_m7 171 rfl) rfl
theorem q1709 : (Jvm.Cond.selects "VeilMintModel" ({ cls := "VeilMintModel", name := "again", desc := "(II)I" } : Jvm.MethodName) ({ cls := "VeilMintModel", name := "again", desc := "(II)I" } : Jvm.MethodName)) ∈ lw_all := lw_g (lw_at lw_m7 172 rfl) rfl
theorem q1710 : (Jvm.Cond.code ({ cls := "VeilMintModel", name := "again", desc := "(II)I" } : Jvm.MethodName) prog_15_method_72_code (4 : Nat) (Option.some Jvm.ClassFile.FieldType.int)) ∈ lw_all := lw_g (lw_at lw_m7 173 rfl) rfl
theorem q1712 : (Jvm.Cond.instanceMethod ({ cls := "VeilMintModel", name := "out", desc := "(I)I" } : Jvm.MethodName)) ∈ lw_all := lw_g (lw_at lw_m7 175 rfl) rfl
theorem q1713 : (Jvm.Cond.selects "VeilMintModel" ({ cls := "VeilMintModel", name := "out", desc := "(I)I" } : Jvm.MethodName) ({ cls := "VeilMintModel", name := "out", desc := "(I)I" } : Jvm.MethodName)) ∈ lw_all := lw_g (lw_at lw_m7 176 rfl) rfl
theorem q1714 : (Jvm.Cond.code ({ cls := "VeilMintModel", name := "out", desc := "(I)I" } : Jvm.MethodName) prog_15_method_73_code (2 : Nat) (Option.some Jvm.ClassFile.FieldType.int)) ∈ lw_all := lw_g (lw_at lw_m7 177 rfl) rfl
theorem q1716 : (Jvm.Cond.instanceMethod ({ cls := "VeilMintModel", name := "outs", desc := "()I" } : Jvm.MethodName)) ∈ lw_all := lw_g (lw_at lw_m7 179 rfl) rfl
theorem q1717 : (Jvm.Cond.selects "VeilMintModel" ({ cls := "VeilMintModel", name := "outs", desc := "()I" } : Jvm.MethodName) ({ cls := "VeilMintModel", name := "outs", desc := "()I" } : Jvm.MethodName)) ∈ lw_all := lw_g (lw_at lw_m7 180 rfl) rfl
theorem q1718 : (Jvm.Cond.code ({ cls := "VeilMintModel", name := "outs", desc := "()I" } : Jvm.MethodName) prog_15_method_74_code (1 : Nat) (Option.some Jvm.ClassFile.FieldType.int)) ∈ lw_all := lw_g (lw_at lw_m7 181 rfl) rfl
theorem q1720 : (Jvm.Cond.instanceMethod ({ cls := "VeilMintModel", name := "key", desc := "(I)I" } : Jvm.MethodName)) ∈ lw_all := lw_g (lw_at lw_m7 183 rfl) rfl
theorem q1721 : (Jvm.Cond.selects "VeilMintModel" ({ cls := "VeilMintModel", name := "key", desc := "(I)I" } : Jvm.MethodName) ({ cls := "VeilMintModel", name := "key", desc := "(I)I" } : Jvm.MethodName)) ∈ lw_all := lw_g (lw_at lw_m7 184 rfl) rfl
theorem q1722 : (Jvm.Cond.code ({ cls := "VeilMintModel", name := "key", desc := "(I)I" } : Jvm.MethodName) prog_15_method_76_code (3 : Nat) (Option.some Jvm.ClassFile.FieldType.int)) ∈ lw_all := lw_g (lw_at lw_m7 185 rfl) rfl
theorem q1723 : (Jvm.Cond.methodLink "VeilMintModel" (612 : Nat) ({ cls := "VeilMintModel", name := "used", desc := "()I" } : Jvm.MethodName)) ∈ lw_all := lw_g (lw_at lw_m7 186 rfl) rfl
theorem q1724 : (Jvm.Cond.privateMethod ({ cls := "VeilMintModel", name := "used", desc := "()I" } : Jvm.MethodName)) ∈ lw_tbl := lw_at lw_m7 187 rfl
theorem q1725 : (Jvm.Cond.instanceMethod ({ cls := "VeilMintModel", name := "used", desc := "()I" } : Jvm.MethodName)) ∈ lw_all := lw_g (lw_at lw_m7 188 rfl) rfl
theorem q1726 : (Jvm.Cond.code ({ cls := "VeilMintModel", name := "used", desc := "()I" } : Jvm.MethodName) prog_15_method_62_code (2 : Nat) (Option.some Jvm.ClassFile.FieldType.int)) ∈ lw_all := lw_g (lw_at lw_m7 189 rfl) rfl
theorem q1727 : (Jvm.Cond.methodLink "VeilMintModel" (615 : Nat) ({ cls := "VeilMintModel", name := "keyOne", desc := "(I)I" } : Jvm.MethodName)) ∈ lw_all := lw_g (lw_at lw_m7 190 rfl) rfl
theorem q1728 : (Jvm.Cond.privateMethod ({ cls := "VeilMintModel", name := "keyOne", desc := "(I)I" } : Jvm.MethodName)) ∈ lw_tbl := lw_at lw_m7 191 rfl
theorem q1729 : (Jvm.Cond.instanceMethod ({ cls := "VeilMintModel", name := "keyOne", desc := "(I)I" } : Jvm.MethodName)) ∈ lw_all := lw_g (lw_at lw_m7 192 rfl) rfl
theorem q1730 : (Jvm.Cond.code ({ cls := "VeilMintModel", name := "keyOne", desc := "(I)I" } : Jvm.MethodName) prog_15_method_77_code (2 : Nat) (Option.some Jvm.ClassFile.FieldType.int)) ∈ lw_all := lw_g (lw_at lw_m7 193 rfl) rfl
theorem q1731 : (Jvm.Cond.methodLink "VeilMintModel" (217 : Nat) ({ cls := "VeilMintModel", name := "load", desc := "([BII[II)V" } : Jvm.MethodName)) ∈ lw_all := lw_g (lw_at lw_m7 194 rfl) rfl
theorem q1732 : (Jvm.Cond.static ({ cls := "VeilMintModel", name := "load", desc := "([BII[II)V" } : Jvm.MethodName)) ∈ lw_all := lw_g (lw_at lw_m7 195 rfl) rfl
theorem q1733 : (Jvm.Cond.code ({ cls := "VeilMintModel", name := "load", desc := "([BII[II)V" } : Jvm.MethodName) prog_15_method_22_code (6 : Nat) (Option.none : Option Jvm.ClassFile.FieldType)) ∈ lw_all := lw_g (lw_at lw_m7 196 rfl) rfl
theorem q1734 : (Jvm.Cond.methodLink "VeilMintModel" (622 : Nat) ({ cls := "VeilMintModel", name := "isSecret", desc := "([I)Z" } : Jvm.MethodName)) ∈ lw_all := lw_g (lw_at lw_m7 197 rfl) rfl
theorem q1735 : (Jvm.Cond.static ({ cls := "VeilMintModel", name := "isSecret", desc := "([I)Z" } : Jvm.MethodName)) ∈ lw_all := lw_g (lw_at lw_m7 198 rfl) rfl
theorem q1736 : (Jvm.Cond.code ({ cls := "VeilMintModel", name := "isSecret", desc := "([I)Z" } : Jvm.MethodName) prog_15_method_34_code (1 : Nat) (Option.some Jvm.ClassFile.FieldType.boolean)) ∈ lw_all := lw_g (lw_at lw_m7 199 rfl) rfl
theorem q1737 : (Jvm.Cond.methodLink "VeilMintModel" (122 : Nat) ({ cls := "VeilMintModel", name := "isZero", desc := "([II)Z" } : Jvm.MethodName)) ∈ lw_all := lw_g (lw_at lw_m7 200 rfl) rfl
theorem q1738 : (Jvm.Cond.static ({ cls := "VeilMintModel", name := "isZero", desc := "([II)Z" } : Jvm.MethodName)) ∈ lw_all := lw_g (lw_at lw_m7 201 rfl) rfl
theorem q1739 : (Jvm.Cond.code ({ cls := "VeilMintModel", name := "isZero", desc := "([II)Z" } : Jvm.MethodName) prog_15_method_4_code (4 : Nat) (Option.some Jvm.ClassFile.FieldType.boolean)) ∈ lw_all := lw_g (lw_at lw_m7 202 rfl) rfl
theorem q1740 : (Jvm.Cond.methodLink "VeilMintModel" (26 : Nat) ({ cls := "VeilMintModel", name := "compare", desc := "([I[II)I" } : Jvm.MethodName)) ∈ lw_all := lw_g (lw_at lw_m7 203 rfl) rfl
theorem q1741 : (Jvm.Cond.static ({ cls := "VeilMintModel", name := "compare", desc := "([I[II)I" } : Jvm.MethodName)) ∈ lw_all := lw_g (lw_at lw_m7 204 rfl) rfl
theorem q1742 : (Jvm.Cond.code ({ cls := "VeilMintModel", name := "compare", desc := "([I[II)I" } : Jvm.MethodName) prog_15_method_3_code (4 : Nat) (Option.some Jvm.ClassFile.FieldType.int)) ∈ lw_all := lw_g (lw_at lw_m7 205 rfl) rfl
theorem q1743 : (Jvm.Cond.methodLink "VeilMintModel" (446 : Nat) ({ cls := "VeilMintModel", name := "multiply", desc := "([ILVeilMintModel$Spot;LVeilMintModel$Spot;)V" } : Jvm.MethodName)) ∈ lw_all := lw_g (lw_at lw_m7 206 rfl) rfl
theorem q1744 : (Jvm.Cond.privateMethod ({ cls := "VeilMintModel", name := "multiply", desc := "([ILVeilMintModel$Spot;LVeilMintModel$Spot;)V" } : Jvm.MethodName)) ∈ lw_tbl := lw_at lw_m7 207 rfl
theorem q1745 : (Jvm.Cond.instanceMethod ({ cls := "VeilMintModel", name := "multiply", desc := "([ILVeilMintModel$Spot;LVeilMintModel$Spot;)V" } : Jvm.MethodName)) ∈ lw_all := lw_g (lw_at lw_m7 208 rfl) rfl
theorem q1746 : (Jvm.Cond.code ({ cls := "VeilMintModel", name := "multiply", desc := "([ILVeilMintModel$Spot;LVeilMintModel$Spot;)V" } : Jvm.MethodName) prog_15_method_28_code (6 : Nat) (Option.none : Option Jvm.ClassFile.FieldType)) ∈ lw_all := lw_g (lw_at lw_m7 209 rfl) rfl
theorem q1747 : (Jvm.Cond.methodLink "VeilMintModel" (142 : Nat) ({ cls := "VeilMintModel$Spot", name := "is", desc := "(LVeilMintModel$Spot;)V" } : Jvm.MethodName)) ∈ lw_all := lw_g (lw_at lw_m7 210 rfl) rfl
theorem q1752 : (Jvm.Cond.methodLink "VeilMintModel" (196 : Nat) ({ cls := "VeilMintModel", name := "doubles", desc := "()V" } : Jvm.MethodName)) ∈ lw_all := lw_g (lw_at lw_m7 215 rfl) rfl
theorem q1753 : (Jvm.Cond.privateMethod ({ cls := "VeilMintModel", name := "doubles", desc := "()V" } : Jvm.MethodName)) ∈ lw_tbl := lw_at lw_m7 216 rfl
theorem q1754 : (Jvm.Cond.instanceMethod ({ cls := "VeilMintModel", name := "doubles", desc := "()V" } : Jvm.MethodName)) ∈ lw_all := lw_g (lw_at lw_m7 217 rfl) rfl
theorem q1755 : (Jvm.Cond.code ({ cls := "VeilMintModel", name := "doubles", desc := "()V" } : Jvm.MethodName) prog_15_method_26_code (1 : Nat) (Option.none : Option Jvm.ClassFile.FieldType)) ∈ lw_all := lw_g (lw_at lw_m7 218 rfl) rfl
theorem q1756 : (Jvm.Cond.methodLink "VeilMintModel" (102 : Nat) ({ cls := "VeilMintModel", name := "times", desc := "(LVeilMintModel$Mod;[I[I[I)V" } : Jvm.MethodName)) ∈ lw_all := lw_g (lw_at lw_m7 219 rfl) rfl
theorem q1757 : (Jvm.Cond.privateMethod ({ cls := "VeilMintModel", name := "times", desc := "(LVeilMintModel$Mod;[I[I[I)V" } : Jvm.MethodName)) ∈ lw_tbl := lw_at lw_m7 220 rfl
theorem q1758 : (Jvm.Cond.instanceMethod ({ cls := "VeilMintModel", name := "times", desc := "(LVeilMintModel$Mod;[I[I[I)V" } : Jvm.MethodName)) ∈ lw_all := lw_g (lw_at lw_m7 221 rfl) rfl
theorem q1759 : (Jvm.Cond.code ({ cls := "VeilMintModel", name := "times", desc := "(LVeilMintModel$Mod;[I[I[I)V" } : Jvm.MethodName) prog_15_method_13_code (10 : Nat) (Option.none : Option Jvm.ClassFile.FieldType)) ∈ lw_all := lw_g (lw_at lw_m7 222 rfl) rfl
theorem q1760 : (Jvm.Cond.methodLink "VeilMintModel" (65 : Nat) ({ cls := "VeilMintModel", name := "folds", desc := "([I)V" } : Jvm.MethodName)) ∈ lw_all := lw_g (lw_at lw_m7 223 rfl) rfl
theorem q1761 : (Jvm.Cond.privateMethod ({ cls := "VeilMintModel", name := "folds", desc := "([I)V" } : Jvm.MethodName)) ∈ lw_tbl := lw_at lw_m7 224 rfl
theorem q1762 : (Jvm.Cond.instanceMethod ({ cls := "VeilMintModel", name := "folds", desc := "([I)V" } : Jvm.MethodName)) ∈ lw_all := lw_g (lw_at lw_m7 225 rfl) rfl
theorem q1763 : (Jvm.Cond.code ({ cls := "VeilMintModel", name := "folds", desc := "([I)V" } : Jvm.MethodName) prog_15_method_15_code (6 : Nat) (Option.none : Option Jvm.ClassFile.FieldType)) ∈ lw_all := lw_g (lw_at lw_m7 226 rfl) rfl
theorem q1764 : (Jvm.Cond.methodLink "VeilMintModel" (77 : Nat) ({ cls := "VeilMintModel", name := "folded", desc := "(IJ)V" } : Jvm.MethodName)) ∈ lw_all := lw_g (lw_at lw_m7 227 rfl) rfl
theorem q1765 : (Jvm.Cond.privateMethod ({ cls := "VeilMintModel", name := "folded", desc := "(IJ)V" } : Jvm.MethodName)) ∈ lw_tbl := lw_at lw_m7 228 rfl
theorem q1766 : (Jvm.Cond.instanceMethod ({ cls := "VeilMintModel", name := "folded", desc := "(IJ)V" } : Jvm.MethodName)) ∈ lw_all := lw_g (lw_at lw_m7 229 rfl) rfl
theorem q1767 : (Jvm.Cond.code ({ cls := "VeilMintModel", name := "folded", desc := "(IJ)V" } : Jvm.MethodName) prog_15_method_14_code (4 : Nat) (Option.none : Option Jvm.ClassFile.FieldType)) ∈ lw_all := lw_g (lw_at lw_m7 230 rfl) rfl
theorem q1768 : (Jvm.Cond.methodLink "VeilMintModel" (81 : Nat) ({ cls := "VeilMintModel", name := "carried", desc := "([I)J" } : Jvm.MethodName)) ∈ lw_all := lw_g (lw_at lw_m7 231 rfl) rfl
theorem q1769 : (Jvm.Cond.privateMethod ({ cls := "VeilMintModel", name := "carried", desc := "([I)J" } : Jvm.MethodName)) ∈ lw_tbl := lw_at lw_m7 232 rfl
theorem q1770 : (Jvm.Cond.instanceMethod ({ cls := "VeilMintModel", name := "carried", desc := "([I)J" } : Jvm.MethodName)) ∈ lw_all := lw_g (lw_at lw_m7 233 rfl) rfl
theorem q1771 : (Jvm.Cond.code ({ cls := "VeilMintModel", name := "carried", desc := "([I)J" } : Jvm.MethodName) prog_15_method_16_code (5 : Nat) (Option.some Jvm.ClassFile.FieldType.long)) ∈ lw_all := lw_g (lw_at lw_m7 234 rfl) rfl
theorem q1772 : (Jvm.Cond.methodLink "VeilMintModel" (69 : Nat) ({ cls := "VeilMintModel", name := "rest", desc := "(LVeilMintModel$Mod;I[I)V" } : Jvm.MethodName)) ∈ lw_all := lw_g (lw_at lw_m7 235 rfl) rfl
theorem q1773 : (Jvm.Cond.privateMethod ({ cls := "VeilMintModel", name := "rest", desc := "(LVeilMintModel$Mod;I[I)V" } : Jvm.MethodName)) ∈ lw_tbl := lw_at lw_m7 236 rfl
theorem q1774 : (Jvm.Cond.instanceMethod ({ cls := "VeilMintModel", name := "rest", desc := "(LVeilMintModel$Mod;I[I)V" } : Jvm.MethodName)) ∈ lw_all := lw_g (lw_at lw_m7 237 rfl) rfl
theorem q1775 : (Jvm.Cond.code ({ cls := "VeilMintModel", name := "rest", desc := "(LVeilMintModel$Mod;I[I)V" } : Jvm.MethodName) prog_15_method_11_code (15 : Nat) (Option.none : Option Jvm.ClassFile.FieldType)) ∈ lw_all := lw_g (lw_at lw_m7 238 rfl) rfl
theorem q1776 : (Jvm.Cond.methodLink "VeilMintModel" (42 : Nat) ({ cls := "java/lang/Long", name := "divideUnsigned", desc := "(JJ)J" } : Jvm.MethodName)) ∈ lw_all := lw_g (lw_at lw_m7 239 rfl) rfl
theorem q1780 : (Jvm.Cond.methodLink "VeilMintModel" (48 : Nat) ({ cls := "java/lang/Long", name := "remainderUnsigned", desc := "(JJ)J" } : Jvm.MethodName)) ∈ lw_all := lw_g (lw_at lw_m8 3 rfl) rfl
theorem q1783 : (Jvm.Cond.constantLong "VeilMintModel" (51 : Nat) (4294967296 : Int64)) ∈ lw_all := lw_g (lw_at lw_m8 6 rfl) rfl
theorem q1784 : (Jvm.Cond.methodLink "VeilMintModel" (53 : Nat) ({ cls := "java/lang/Long", name := "compareUnsigned", desc := "(JJ)I" } : Jvm.MethodName)) ∈ lw_all := lw_g (lw_at lw_m8 7 rfl) rfl
theorem q1791 : (Jvm.Cond.methodLink "VeilMintModel" (57 : Nat) ({ cls := "VeilMintModel", name := "takes", desc := "(LVeilMintModel$Mod;IJ)V" } : Jvm.MethodName)) ∈ lw_all := lw_g (lw_at lw_m8 14 rfl) rfl
theorem q1792 : (Jvm.Cond.privateMethod ({ cls := "VeilMintModel", name := "takes", desc := "(LVeilMintModel$Mod;IJ)V" } : Jvm.MethodName)) ∈ lw_tbl := lw_at lw_m8 15 rfl
theorem q1793 : (Jvm.Cond.instanceMethod ({ cls := "VeilMintModel", name := "takes", desc := "(LVeilMintModel$Mod;IJ)V" } : Jvm.MethodName)) ∈ lw_all := lw_g (lw_at lw_m8 16 rfl) rfl
theorem q1794 : (Jvm.Cond.code ({ cls := "VeilMintModel", name := "takes", desc := "(LVeilMintModel$Mod;IJ)V" } : Jvm.MethodName) prog_15_method_12_code (10 : Nat) (Option.none : Option Jvm.ClassFile.FieldType)) ∈ lw_all := lw_g (lw_at lw_m8 17 rfl) rfl
theorem q1795 : (Jvm.Cond.methodLink "VeilMintModel" (130 : Nat) ({ cls := "VeilMintModel", name := "sub", desc := "(LVeilMintModel$Mod;[I[I[I)V" } : Jvm.MethodName)) ∈ lw_all := lw_g (lw_at lw_m8 18 rfl) rfl
theorem q1796 : (Jvm.Cond.static ({ cls := "VeilMintModel", name := "sub", desc := "(LVeilMintModel$Mod;[I[I[I)V" } : Jvm.MethodName)) ∈ lw_all := lw_g (lw_at lw_m8 19 rfl) rfl
theorem q1797 : (Jvm.Cond.code ({ cls := "VeilMintModel", name := "sub", desc := "(LVeilMintModel$Mod;[I[I[I)V" } : Jvm.MethodName) prog_15_method_10_code (5 : Nat) (Option.none : Option Jvm.ClassFile.FieldType)) ∈ lw_all := lw_g (lw_at lw_m8 20 rfl) rfl
theorem q1798 : (Jvm.Cond.methodLink "VeilMintModel" (155 : Nat) ({ cls := "VeilMintModel", name := "add", desc := "(LVeilMintModel$Mod;[I[I[I)V" } : Jvm.MethodName)) ∈ lw_all := lw_g (lw_at lw_m8 21 rfl) rfl
theorem q1799 : (Jvm.Cond.static ({ cls := "VeilMintModel", name := "add", desc := "(LVeilMintModel$Mod;[I[I[I)V" } : Jvm.MethodName)) ∈ lw_all := lw_g (lw_at lw_m8 22 rfl) rfl
theorem q1800 : (Jvm.Cond.code ({ cls := "VeilMintModel", name := "add", desc := "(LVeilMintModel$Mod;[I[I[I)V" } : Jvm.MethodName) prog_15_method_9_code (5 : Nat) (Option.none : Option Jvm.ClassFile.FieldType)) ∈ lw_all := lw_g (lw_at lw_m8 23 rfl) rfl
theorem q1801 : (Jvm.Cond.methodLink "VeilMintModel" (189 : Nat) ({ cls := "VeilMintModel", name := "eight", desc := "([I)V" } : Jvm.MethodName)) ∈ lw_all := lw_g (lw_at lw_m8 24 rfl) rfl
theorem q1802 : (Jvm.Cond.privateMethod ({ cls := "VeilMintModel", name := "eight", desc := "([I)V" } : Jvm.MethodName)) ∈ lw_tbl := lw_at lw_m8 25 rfl
theorem q1803 : (Jvm.Cond.instanceMethod ({ cls := "VeilMintModel", name := "eight", desc := "([I)V" } : Jvm.MethodName)) ∈ lw_all := lw_g (lw_at lw_m8 26 rfl) rfl
theorem q1804 : (Jvm.Cond.code ({ cls := "VeilMintModel", name := "eight", desc := "([I)V" } : Jvm.MethodName) prog_15_method_25_code (3 : Nat) (Option.none : Option Jvm.ClassFile.FieldType)) ∈ lw_all := lw_g (lw_at lw_m8 27 rfl) rfl
theorem q1805 : (Jvm.Cond.methodLink "VeilMintModel" (200 : Nat) ({ cls := "VeilMintModel", name := "steps", desc := "()Z" } : Jvm.MethodName)) ∈ lw_all := lw_g (lw_at lw_m8 28 rfl) rfl
theorem q1806 : (Jvm.Cond.privateMethod ({ cls := "VeilMintModel", name := "steps", desc := "()Z" } : Jvm.MethodName)) ∈ lw_tbl := lw_at lw_m8 29 rfl
theorem q1807 : (Jvm.Cond.instanceMethod ({ cls := "VeilMintModel", name := "steps", desc := "()Z" } : Jvm.MethodName)) ∈ lw_all := lw_g (lw_at lw_m8 30 rfl) rfl
theorem q1808 : (Jvm.Cond.code ({ cls := "VeilMintModel", name := "steps", desc := "()Z" } : Jvm.MethodName) prog_15_method_27_code (1 : Nat) (Option.some Jvm.ClassFile.FieldType.boolean)) ∈ lw_all := lw_g (lw_at lw_m8 31 rfl) rfl
theorem q1809 : (Jvm.Cond.methodLink "VeilMintModel" (161 : Nat) ({ cls := "VeilMintModel", name := "inverse", desc := "(LVeilMintModel$Mod;[I[I)Z" } : Jvm.MethodName)) ∈ lw_all := lw_g (lw_at lw_m8 32 rfl) rfl
theorem q1810 : (Jvm.Cond.privateMethod ({ cls := "VeilMintModel", name := "inverse", desc := "(LVeilMintModel$Mod;[I[I)Z" } : Jvm.MethodName)) ∈ lw_tbl := lw_at lw_m8 33 rfl
theorem q1811 : (Jvm.Cond.instanceMethod ({ cls := "VeilMintModel", name := "inverse", desc := "(LVeilMintModel$Mod;[I[I)Z" } : Jvm.MethodName)) ∈ lw_all := lw_g (lw_at lw_m8 34 rfl) rfl
theorem q1812 : (Jvm.Cond.code ({ cls := "VeilMintModel", name := "inverse", desc := "(LVeilMintModel$Mod;[I[I)Z" } : Jvm.MethodName) prog_15_method_21_code (7 : Nat) (Option.some Jvm.ClassFile.FieldType.boolean)) ∈ lw_all := lw_g (lw_at lw_m8 35 rfl) rfl
theorem q1813 : (Jvm.Cond.methodLink "VeilMintModel" (126 : Nat) ({ cls := "VeilMintModel", name := "halves", desc := "(LVeilMintModel$Mod;[I)V" } : Jvm.MethodName)) ∈ lw_all := lw_g (lw_at lw_m8 36 rfl) rfl
theorem q1814 : (Jvm.Cond.static ({ cls := "VeilMintModel", name := "halves", desc := "(LVeilMintModel$Mod;[I)V" } : Jvm.MethodName)) ∈ lw_all := lw_g (lw_at lw_m8 37 rfl) rfl
theorem q1815 : (Jvm.Cond.code ({ cls := "VeilMintModel", name := "halves", desc := "(LVeilMintModel$Mod;[I)V" } : Jvm.MethodName) prog_15_method_19_code (3 : Nat) (Option.none : Option Jvm.ClassFile.FieldType)) ∈ lw_all := lw_g (lw_at lw_m8 38 rfl) rfl
theorem q1816 : (Jvm.Cond.methodLink "VeilMintModel" (133 : Nat) ({ cls := "VeilMintModel", name := "swap", desc := "([I[II)V" } : Jvm.MethodName)) ∈ lw_all := lw_g (lw_at lw_m8 39 rfl) rfl
theorem q1817 : (Jvm.Cond.static ({ cls := "VeilMintModel", name := "swap", desc := "([I[II)V" } : Jvm.MethodName)) ∈ lw_all := lw_g (lw_at lw_m8 40 rfl) rfl
theorem q1818 : (Jvm.Cond.code ({ cls := "VeilMintModel", name := "swap", desc := "([I[II)V" } : Jvm.MethodName) prog_15_method_20_code (5 : Nat) (Option.none : Option Jvm.ClassFile.FieldType)) ∈ lw_all := lw_g (lw_at lw_m8 41 rfl) rfl
theorem q1819 : (Jvm.Cond.methodLink "VeilMintModel" (629 : Nat) ({ cls := "VeilMintModel", name := "comes", desc := "(I)I" } : Jvm.MethodName)) ∈ lw_all := lw_g (lw_at lw_m8 42 rfl) rfl
theorem q1820 : (Jvm.Cond.privateMethod ({ cls := "VeilMintModel", name := "comes", desc := "(I)I" } : Jvm.MethodName)) ∈ lw_tbl := lw_at lw_m8 43 rfl
theorem q1821 : (Jvm.Cond.instanceMethod ({ cls := "VeilMintModel", name := "comes", desc := "(I)I" } : Jvm.MethodName)) ∈ lw_all := lw_g (lw_at lw_m8 44 rfl) rfl
theorem q1822 : (Jvm.Cond.code ({ cls := "VeilMintModel", name := "comes", desc := "(I)I" } : Jvm.MethodName) prog_15_method_78_code (2 : Nat) (Option.some Jvm.ClassFile.FieldType.int)) ∈ lw_all := lw_g (lw_at lw_m8 45 rfl) rfl
theorem q1823 : (Jvm.Cond.methodLink "VeilMintModel" (632 : Nat) ({ cls := "VeilMintModel", name := "keyId", desc := "(I)V" } : Jvm.MethodName)) ∈ lw_all := lw_g (lw_at lw_m8 46 rfl) rfl
theorem q1824 : (Jvm.Cond.privateMethod ({ cls := "VeilMintModel", name := "keyId", desc := "(I)V" } : Jvm.MethodName)) ∈ lw_tbl := lw_at lw_m8 47 rfl
theorem q1825 : (Jvm.Cond.instanceMethod ({ cls := "VeilMintModel", name := "keyId", desc := "(I)V" } : Jvm.MethodName)) ∈ lw_all := lw_g (lw_at lw_m8 48 rfl) rfl
theorem q1826 : (Jvm.Cond.code ({ cls := "VeilMintModel", name := "keyId", desc := "(I)V" } : Jvm.MethodName) prog_15_method_75_code (3 : Nat) (Option.none : Option Jvm.ClassFile.FieldType)) ∈ lw_all := lw_g (lw_at lw_m8 49 rfl) rfl
theorem q1827 : (Jvm.Cond.methodLink "VeilMintModel" (405 : Nat) ({ cls := "VeilMintModel", name := "bytes", desc := "(LVeilMintModel$Spot;[BI)V" } : Jvm.MethodName)) ∈ lw_all := lw_g (lw_at lw_m8 50 rfl) rfl
theorem q1828 : (Jvm.Cond.static ({ cls := "VeilMintModel", name := "bytes", desc := "(LVeilMintModel$Spot;[BI)V" } : Jvm.MethodName)) ∈ lw_all := lw_g (lw_at lw_m8 51 rfl) rfl
theorem q1829 : (Jvm.Cond.code ({ cls := "VeilMintModel", name := "bytes", desc := "(LVeilMintModel$Spot;[BI)V" } : Jvm.MethodName) prog_15_method_33_code (3 : Nat) (Option.none : Option Jvm.ClassFile.FieldType)) ∈ lw_all := lw_g (lw_at lw_m8 52 rfl) rfl
theorem q1830 : (Jvm.Cond.methodLink "VeilMintModel" (232 : Nat) ({ cls := "VeilMintModel", name := "store", desc := "([I[BII)V" } : Jvm.MethodName)) ∈ lw_all := lw_g (lw_at lw_m8 53 rfl) rfl
theorem q1831 : (Jvm.Cond.static ({ cls := "VeilMintModel", name := "store", desc := "([I[BII)V" } : Jvm.MethodName)) ∈ lw_all := lw_g (lw_at lw_m8 54 rfl) rfl
theorem q1832 : (Jvm.Cond.code ({ cls := "VeilMintModel", name := "store", desc := "([I[BII)V" } : Jvm.MethodName) prog_15_method_23_code (5 : Nat) (Option.none : Option Jvm.ClassFile.FieldType)) ∈ lw_all := lw_g (lw_at lw_m8 55 rfl) rfl
theorem q1833 : (Jvm.Cond.methodLink "VeilMintModel" (325 : Nat) ({ cls := "VeilMintModel", name := "say", desc := "([BII)V" } : Jvm.MethodName)) ∈ lw_all := lw_g (lw_at lw_m8 56 rfl) rfl
theorem q1834 : (Jvm.Cond.privateMethod ({ cls := "VeilMintModel", name := "say", desc := "([BII)V" } : Jvm.MethodName)) ∈ lw_tbl := lw_at lw_m8 57 rfl
theorem q1835 : (Jvm.Cond.instanceMethod ({ cls := "VeilMintModel", name := "say", desc := "([BII)V" } : Jvm.MethodName)) ∈ lw_all := lw_g (lw_at lw_m8 58 rfl) rfl
theorem q1836 : (Jvm.Cond.code ({ cls := "VeilMintModel", name := "say", desc := "([BII)V" } : Jvm.MethodName) prog_15_method_36_code (5 : Nat) (Option.none : Option Jvm.ClassFile.FieldType)) ∈ lw_all := lw_g (lw_at lw_m8 59 rfl) rfl
theorem q1837 : (Jvm.Cond.methodLink "VeilMintModel" (246 : Nat) ({ cls := "VeilMintModel", name := "say", desc := "(I)V" } : Jvm.MethodName)) ∈ lw_all := lw_g (lw_at lw_m8 60 rfl) rfl
theorem q1838 : (Jvm.Cond.privateMethod ({ cls := "VeilMintModel", name := "say", desc := "(I)V" } : Jvm.MethodName)) ∈ lw_tbl := lw_at lw_m8 61 rfl
theorem q1839 : (Jvm.Cond.instanceMethod ({ cls := "VeilMintModel", name := "say", desc := "(I)V" } : Jvm.MethodName)) ∈ lw_all := lw_g (lw_at lw_m8 62 rfl) rfl
theorem q1840 : (Jvm.Cond.code ({ cls := "VeilMintModel", name := "say", desc := "(I)V" } : Jvm.MethodName) prog_15_method_35_code (2 : Nat) (Option.none : Option Jvm.ClassFile.FieldType)) ∈ lw_all := lw_g (lw_at lw_m8 63 rfl) rfl
theorem q1841 : (Jvm.Cond.methodLink "VeilMintModel" (334 : Nat) ({ cls := "VeilMintModel", name := "both", desc := "(I)V" } : Jvm.MethodName)) ∈ lw_all := lw_g (lw_at lw_m8 64 rfl) rfl
theorem q1842 : (Jvm.Cond.privateMethod ({ cls := "VeilMintModel", name := "both", desc := "(I)V" } : Jvm.MethodName)) ∈ lw_tbl := lw_at lw_m8 65 rfl
theorem q1843 : (Jvm.Cond.instanceMethod ({ cls := "VeilMintModel", name := "both", desc := "(I)V" } : Jvm.MethodName)) ∈ lw_all := lw_g (lw_at lw_m8 66 rfl) rfl
theorem q1844 : (Jvm.Cond.code ({ cls := "VeilMintModel", name := "both", desc := "(I)V" } : Jvm.MethodName) prog_15_method_37_code (2 : Nat) (Option.none : Option Jvm.ClassFile.FieldType)) ∈ lw_all := lw_g (lw_at lw_m8 67 rfl) rfl
theorem q1845 : (Jvm.Cond.methodLink "VeilMintModel" (609 : Nat) ({ cls := "VeilMintModel", name := "h2", desc := "()V" } : Jvm.MethodName)) ∈ lw_all := lw_g (lw_at lw_m8 68 rfl) rfl
theorem q1846 : (Jvm.Cond.privateMethod ({ cls := "VeilMintModel", name := "h2", desc := "()V" } : Jvm.MethodName)) ∈ lw_tbl := lw_at lw_m8 69 rfl
theorem q1847 : (Jvm.Cond.instanceMethod ({ cls := "VeilMintModel", name := "h2", desc := "()V" } : Jvm.MethodName)) ∈ lw_all := lw_g (lw_at lw_m8 70 rfl) rfl
theorem q1848 : (Jvm.Cond.code ({ cls := "VeilMintModel", name := "h2", desc := "()V" } : Jvm.MethodName) prog_15_method_43_code (2 : Nat) (Option.none : Option Jvm.ClassFile.FieldType)) ∈ lw_all := lw_g (lw_at lw_m8 71 rfl) rfl
theorem q1849 : (Jvm.Cond.methodLink "VeilMintModel" (270 : Nat) ({ cls := "VeilMintModel", name := "pads", desc := "(II)V" } : Jvm.MethodName)) ∈ lw_all := lw_g (lw_at lw_m8 72 rfl) rfl
theorem q1850 : (Jvm.Cond.privateMethod ({ cls := "VeilMintModel", name := "pads", desc := "(II)V" } : Jvm.MethodName)) ∈ lw_tbl := lw_at lw_m8 73 rfl
theorem q1851 : (Jvm.Cond.instanceMethod ({ cls := "VeilMintModel", name := "pads", desc := "(II)V" } : Jvm.MethodName)) ∈ lw_all := lw_g (lw_at lw_m8 74 rfl) rfl
theorem q1852 : (Jvm.Cond.code ({ cls := "VeilMintModel", name := "pads", desc := "(II)V" } : Jvm.MethodName) prog_15_method_40_code (6 : Nat) (Option.none : Option Jvm.ClassFile.FieldType)) ∈ lw_all := lw_g (lw_at lw_m8 75 rfl) rfl
theorem q1853 : (Jvm.Cond.constantLong "VeilMintModel" (268 : Nat) (8 : Int64)) ∈ lw_all := lw_g (lw_at lw_m8 76 rfl) rfl
theorem q1854 : (Jvm.Cond.fieldLink "VeilMintModel" (277 : Nat) "VeilMintModel" "STARTS" "[I") ∈ lw_all := lw_g (lw_at lw_m8 77 rfl) rfl
theorem q1855 : (Jvm.Cond.laysStatic "VeilMintModel" "STARTS" "[I") ∈ lw_tbl := lw_at lw_m8 78 rfl
theorem q1856 : (Jvm.Cond.methodLink "VeilMintModel" (280 : Nat) ({ cls := "VeilMintModel", name := "block", desc := "(I)V" } : Jvm.MethodName)) ∈ lw_all := lw_g (lw_at lw_m8 79 rfl) rfl
theorem q1857 : (Jvm.Cond.privateMethod ({ cls := "VeilMintModel", name := "block", desc := "(I)V" } : Jvm.MethodName)) ∈ lw_tbl := lw_at lw_m8 80 rfl
theorem q1858 : (Jvm.Cond.instanceMethod ({ cls := "VeilMintModel", name := "block", desc := "(I)V" } : Jvm.MethodName)) ∈ lw_all := lw_g (lw_at lw_m8 81 rfl) rfl
theorem q1859 : (Jvm.Cond.code ({ cls := "VeilMintModel", name := "block", desc := "(I)V" } : Jvm.MethodName) prog_15_method_44_code (13 : Nat) (Option.none : Option Jvm.ClassFile.FieldType)) ∈ lw_all := lw_g (lw_at lw_m8 82 rfl) rfl
theorem q1860 : (Jvm.Cond.methodLink "VeilMintModel" (289 : Nat) ({ cls := "VeilMintModel", name := "roll", desc := "(II)I" } : Jvm.MethodName)) ∈ lw_all := lw_g (lw_at lw_m8 83 rfl) rfl
theorem q1861 : (Jvm.Cond.static ({ cls := "VeilMintModel", name := "roll", desc := "(II)I" } : Jvm.MethodName)) ∈ lw_all := lw_g (lw_at lw_m8 84 rfl) rfl
theorem q1862 : (Jvm.Cond.code ({ cls := "VeilMintModel", name := "roll", desc := "(II)I" } : Jvm.MethodName) prog_15_method_41_code (2 : Nat) (Option.some Jvm.ClassFile.FieldType.int)) ∈ lw_all := lw_g (lw_at lw_m8 85 rfl) rfl
theorem q1863 : (Jvm.Cond.fieldLink "VeilMintModel" (293 : Nat) "VeilMintModel" "ROUNDS" "[I") ∈ lw_all := lw_g (lw_at lw_m8 86 rfl) rfl
theorem q1864 : (Jvm.Cond.laysStatic "VeilMintModel" "ROUNDS" "[I") ∈ lw_tbl := lw_at lw_m8 87 rfl
theorem q1865 : (Jvm.Cond.methodLink "VeilMintModel" (619 : Nat) ({ cls := "VeilMintModel", name := "keyTwo", desc := "(I)I" } : Jvm.MethodName)) ∈ lw_all := lw_g (lw_at lw_m8 88 rfl) rfl
theorem q1866 : (Jvm.Cond.privateMethod ({ cls := "VeilMintModel", name := "keyTwo", desc := "(I)I" } : Jvm.MethodName)) ∈ lw_tbl := lw_at lw_m8 89 rfl
theorem q1867 : (Jvm.Cond.instanceMethod ({ cls := "VeilMintModel", name := "keyTwo", desc := "(I)I" } : Jvm.MethodName)) ∈ lw_all := lw_g (lw_at lw_m8 90 rfl) rfl
theorem q1868 : (Jvm.Cond.code ({ cls := "VeilMintModel", name := "keyTwo", desc := "(I)I" } : Jvm.MethodName) prog_15_method_79_code (6 : Nat) (Option.some Jvm.ClassFile.FieldType.int)) ∈ lw_all := lw_g (lw_at lw_m8 91 rfl) rfl
theorem q1869 : (Jvm.Cond.constant "VeilMintModel" (635 : Nat) (65537 : Int32)) ∈ lw_all := lw_g (lw_at lw_m8 92 rfl) rfl
theorem q1871 : (Jvm.Cond.instanceMethod ({ cls := "VeilMintModel", name := "retire", desc := "(I)Z" } : Jvm.MethodName)) ∈ lw_all := lw_g (lw_at lw_m8 94 rfl) rfl
theorem q1872 : (Jvm.Cond.selects "VeilMintModel" ({ cls := "VeilMintModel", name := "retire", desc := "(I)Z" } : Jvm.MethodName) ({ cls := "VeilMintModel", name := "retire", desc := "(I)Z" } : Jvm.MethodName)) ∈ lw_all := lw_g (lw_at lw_m8 95 rfl) rfl
theorem q1873 : (Jvm.Cond.code ({ cls := "VeilMintModel", name := "retire", desc := "(I)Z" } : Jvm.MethodName) prog_15_method_81_code (3 : Nat) (Option.some Jvm.ClassFile.FieldType.boolean)) ∈ lw_all := lw_g (lw_at lw_m8 96 rfl) rfl
theorem q1874 : (Jvm.Cond.methodLink "VeilMintModel" (636 : Nat) ({ cls := "VeilMintModel", name := "noKey", desc := "(I)Z" } : Jvm.MethodName)) ∈ lw_all := lw_g (lw_at lw_m8 97 rfl) rfl
theorem q1875 : (Jvm.Cond.privateMethod ({ cls := "VeilMintModel", name := "noKey", desc := "(I)Z" } : Jvm.MethodName)) ∈ lw_tbl := lw_at lw_m8 98 rfl
theorem q1876 : (Jvm.Cond.instanceMethod ({ cls := "VeilMintModel", name := "noKey", desc := "(I)Z" } : Jvm.MethodName)) ∈ lw_all := lw_g (lw_at lw_m8 99 rfl) rfl
theorem q1877 : (Jvm.Cond.code ({ cls := "VeilMintModel", name := "noKey", desc := "(I)Z" } : Jvm.MethodName) prog_15_method_80_code (2 : Nat) (Option.some Jvm.ClassFile.FieldType.boolean)) ∈ lw_all := lw_g (lw_at lw_m8 100 rfl) rfl
theorem q1879 : (Jvm.Cond.instanceMethod ({ cls := "VeilMintModel", name := "look", desc := "(II)I" } : Jvm.MethodName)) ∈ lw_all := lw_g (lw_at lw_m8 102 rfl) rfl
theorem q1880 : (Jvm.Cond.selects "VeilMintModel" ({ cls := "VeilMintModel", name := "look", desc := "(II)I" } : Jvm.MethodName) ({ cls := "VeilMintModel", name := "look", desc := "(II)I" } : Jvm.MethodName)) ∈ lw_all := lw_g (lw_at lw_m8 103 rfl) rfl
theorem q1881 : (Jvm.Cond.code ({ cls := "VeilMintModel", name := "look", desc := "(II)I" } : Jvm.MethodName) prog_15_method_82_code (4 : Nat) (Option.some Jvm.ClassFile.FieldType.int)) ∈ lw_all := lw_g (lw_at lw_m8 104 rfl) rfl
theorem q1883 : (Jvm.Cond.instanceMethod ({ cls := "VeilMintModel", name := "digest", desc := "()I" } : Jvm.MethodName)) ∈ lw_all := lw_g (lw_at lw_m8 106 rfl) rfl
theorem q1884 : (Jvm.Cond.selects "VeilMintModel" ({ cls := "VeilMintModel", name := "digest", desc := "()I" } : Jvm.MethodName) ({ cls := "VeilMintModel", name := "digest", desc := "()I" } : Jvm.MethodName)) ∈ lw_all := lw_g (lw_at lw_m8 107 rfl) rfl
theorem q1885 : (Jvm.Cond.code ({ cls := "VeilMintModel", name := "digest", desc := "()I" } : Jvm.MethodName) prog_15_method_83_code (3 : Nat) (Option.some Jvm.ClassFile.FieldType.int)) ∈ lw_all := lw_g (lw_at lw_m8 108 rfl) rfl
theorem q1887 : (Jvm.Cond.instanceMethod ({ cls := "VeilMintModel", name := "request", desc := "(I)I" } : Jvm.MethodName)) ∈ lw_all := lw_g (lw_at lw_m8 110 rfl) rfl
theorem q1888 : (Jvm.Cond.selects "VeilMintModel" ({ cls := "VeilMintModel", name := "request", desc := "(I)I" } : Jvm.MethodName) ({ cls := "VeilMintModel", name := "request", desc := "(I)I" } : Jvm.MethodName)) ∈ lw_all := lw_g (lw_at lw_m8 111 rfl) rfl
theorem q1889 : (Jvm.Cond.code ({ cls := "VeilMintModel", name := "request", desc := "(I)I" } : Jvm.MethodName) prog_15_method_84_code (6 : Nat) (Option.some Jvm.ClassFile.FieldType.int)) ∈ lw_all := lw_g (lw_at lw_m8 112 rfl) rfl
theorem q1890 : (Jvm.Cond.methodLink "VeilMintModel" (643 : Nat) ({ cls := "VeilMintModel", name := "blindsOne", desc := "(I)Z" } : Jvm.MethodName)) ∈ lw_all := lw_g (lw_at lw_m8 113 rfl) rfl
theorem q1891 : (Jvm.Cond.privateMethod ({ cls := "VeilMintModel", name := "blindsOne", desc := "(I)Z" } : Jvm.MethodName)) ∈ lw_tbl := lw_at lw_m8 114 rfl
theorem q1892 : (Jvm.Cond.instanceMethod ({ cls := "VeilMintModel", name := "blindsOne", desc := "(I)Z" } : Jvm.MethodName)) ∈ lw_all := lw_g (lw_at lw_m8 115 rfl) rfl
theorem q1893 : (Jvm.Cond.code ({ cls := "VeilMintModel", name := "blindsOne", desc := "(I)Z" } : Jvm.MethodName) prog_15_method_85_code (2 : Nat) (Option.some Jvm.ClassFile.FieldType.boolean)) ∈ lw_all := lw_g (lw_at lw_m8 116 rfl) rfl
theorem q1894 : (Jvm.Cond.methodLink "VeilMintModel" (650 : Nat) ({ cls := "VeilMintModel", name := "toPoint", desc := "([BIILVeilMintModel$Spot;)V" } : Jvm.MethodName)) ∈ lw_all := lw_g (lw_at lw_m8 117 rfl) rfl
theorem q1895 : (Jvm.Cond.privateMethod ({ cls := "VeilMintModel", name := "toPoint", desc := "([BIILVeilMintModel$Spot;)V" } : Jvm.MethodName)) ∈ lw_tbl := lw_at lw_m8 118 rfl
theorem q1896 : (Jvm.Cond.instanceMethod ({ cls := "VeilMintModel", name := "toPoint", desc := "([BIILVeilMintModel$Spot;)V" } : Jvm.MethodName)) ∈ lw_all := lw_g (lw_at lw_m8 119 rfl) rfl
theorem q1897 : (Jvm.Cond.code ({ cls := "VeilMintModel", name := "toPoint", desc := "([BIILVeilMintModel$Spot;)V" } : Jvm.MethodName) prog_15_method_53_code (6 : Nat) (Option.none : Option Jvm.ClassFile.FieldType)) ∈ lw_all := lw_g (lw_at lw_m8 120 rfl) rfl
theorem q1898 : (Jvm.Cond.stringRef "VeilMintModel" (383 : Nat) "HashToGroup-") ∈ lw_tbl := lw_at lw_m8 121 rfl
theorem q1899 : (Jvm.Cond.methodLink "VeilMintModel" (354 : Nat) ({ cls := "VeilMintModel", name := "tags", desc := "(Ljava/lang/String;)V" } : Jvm.MethodName)) ∈ lw_all := lw_g (lw_at lw_m8 122 rfl) rfl
theorem q1900 : (Jvm.Cond.privateMethod ({ cls := "VeilMintModel", name := "tags", desc := "(Ljava/lang/String;)V" } : Jvm.MethodName)) ∈ lw_tbl := lw_at lw_m8 123 rfl
theorem q1901 : (Jvm.Cond.instanceMethod ({ cls := "VeilMintModel", name := "tags", desc := "(Ljava/lang/String;)V" } : Jvm.MethodName)) ∈ lw_all := lw_g (lw_at lw_m8 124 rfl) rfl
theorem q1902 : (Jvm.Cond.code ({ cls := "VeilMintModel", name := "tags", desc := "(Ljava/lang/String;)V" } : Jvm.MethodName) prog_15_method_47_code (3 : Nat) (Option.none : Option Jvm.ClassFile.FieldType)) ∈ lw_all := lw_g (lw_at lw_m8 125 rfl) rfl
theorem q1903 : (Jvm.Cond.methodLink "VeilMintModel" (262 : Nat) ({ cls := "VeilMintModel", name := "word", desc := "(Ljava/lang/String;)V" } : Jvm.MethodName)) ∈ lw_all := lw_g (lw_at lw_m8 126 rfl) rfl
theorem q1904 : (Jvm.Cond.privateMethod ({ cls := "VeilMintModel", name := "word", desc := "(Ljava/lang/String;)V" } : Jvm.MethodName)) ∈ lw_tbl := lw_at lw_m8 127 rfl
theorem q1905 : (Jvm.Cond.instanceMethod ({ cls := "VeilMintModel", name := "word", desc := "(Ljava/lang/String;)V" } : Jvm.MethodName)) ∈ lw_all := lw_g (lw_at lw_m8 128 rfl) rfl
theorem q1906 : (Jvm.Cond.code ({ cls := "VeilMintModel", name := "word", desc := "(Ljava/lang/String;)V" } : Jvm.MethodName) prog_15_method_38_code (3 : Nat) (Option.none : Option Jvm.ClassFile.FieldType)) ∈ lw_all := lw_g (lw_at lw_m8 129 rfl) rfl
theorem q1907 : (Jvm.Cond.methodLink "VeilMintModel" (250 : Nat) ({ cls := "java/lang/String", name := "length", desc := "()I" } : Jvm.MethodName)) ∈ lw_all := lw_g (lw_at lw_m8 130 rfl) rfl
theorem q1908 : (Jvm.Cond.methodLink "VeilMintModel" (256 : Nat) ({ cls := "java/lang/String", name := "charAt", desc := "(I)C" } : Jvm.MethodName)) ∈ lw_all := lw_g (lw_at lw_m8 131 rfl) rfl
theorem q1909 : (Jvm.Cond.methodLink "VeilMintModel" (316 : Nat) ({ cls := "VeilMintModel", name := "context", desc := "()V" } : Jvm.MethodName)) ∈ lw_all := lw_g (lw_at lw_m8 132 rfl) rfl
theorem q1910 : (Jvm.Cond.privateMethod ({ cls := "VeilMintModel", name := "context", desc := "()V" } : Jvm.MethodName)) ∈ lw_tbl := lw_at lw_m8 133 rfl
theorem q1911 : (Jvm.Cond.instanceMethod ({ cls := "VeilMintModel", name := "context", desc := "()V" } : Jvm.MethodName)) ∈ lw_all := lw_g (lw_at lw_m8 134 rfl) rfl
theorem q1912 : (Jvm.Cond.code ({ cls := "VeilMintModel", name := "context", desc := "()V" } : Jvm.MethodName) prog_15_method_39_code (1 : Nat) (Option.none : Option Jvm.ClassFile.FieldType)) ∈ lw_all := lw_g (lw_at lw_m8 135 rfl) rfl
theorem q1913 : (Jvm.Cond.stringRef "VeilMintModel" (260 : Nat) "OPRFV1-") ∈ lw_tbl := lw_at lw_m8 136 rfl
theorem q1914 : (Jvm.Cond.stringRef "VeilMintModel" (266 : Nat) "-P384-SHA384") ∈ lw_tbl := lw_at lw_m8 137 rfl
theorem q1915 : (Jvm.Cond.methodLink "VeilMintModel" (357 : Nat) ({ cls := "VeilMintModel", name := "expands", desc := "(I)V" } : Jvm.MethodName)) ∈ lw_all := lw_g (lw_at lw_m8 138 rfl) rfl
theorem q1916 : (Jvm.Cond.privateMethod ({ cls := "VeilMintModel", name := "expands", desc := "(I)V" } : Jvm.MethodName)) ∈ lw_tbl := lw_at lw_m8 139 rfl
theorem q1917 : (Jvm.Cond.instanceMethod ({ cls := "VeilMintModel", name := "expands", desc := "(I)V" } : Jvm.MethodName)) ∈ lw_all := lw_g (lw_at lw_m8 140 rfl) rfl
theorem q1918 : (Jvm.Cond.code ({ cls := "VeilMintModel", name := "expands", desc := "(I)V" } : Jvm.MethodName) prog_15_method_49_code (4 : Nat) (Option.none : Option Jvm.ClassFile.FieldType)) ∈ lw_all := lw_g (lw_at lw_m8 141 rfl) rfl
theorem q1919 : (Jvm.Cond.methodLink "VeilMintModel" (337 : Nat) ({ cls := "VeilMintModel", name := "endsTag", desc := "()V" } : Jvm.MethodName)) ∈ lw_all := lw_g (lw_at lw_m8 142 rfl) rfl
theorem q1920 : (Jvm.Cond.privateMethod ({ cls := "VeilMintModel", name := "endsTag", desc := "()V" } : Jvm.MethodName)) ∈ lw_tbl := lw_at lw_m8 143 rfl
theorem q1921 : (Jvm.Cond.instanceMethod ({ cls := "VeilMintModel", name := "endsTag", desc := "()V" } : Jvm.MethodName)) ∈ lw_all := lw_g (lw_at lw_m8 144 rfl) rfl
theorem q1922 : (Jvm.Cond.code ({ cls := "VeilMintModel", name := "endsTag", desc := "()V" } : Jvm.MethodName) prog_15_method_48_code (1 : Nat) (Option.none : Option Jvm.ClassFile.FieldType)) ∈ lw_all := lw_g (lw_at lw_m8 145 rfl) rfl
theorem q1923 : (Jvm.Cond.methodLink "VeilMintModel" (340 : Nat) ({ cls := "VeilMintModel", name := "h3", desc := "()V" } : Jvm.MethodName)) ∈ lw_all := lw_g (lw_at lw_m8 146 rfl) rfl
theorem q1924 : (Jvm.Cond.privateMethod ({ cls := "VeilMintModel", name := "h3", desc := "()V" } : Jvm.MethodName)) ∈ lw_tbl := lw_at lw_m8 147 rfl
theorem q1925 : (Jvm.Cond.instanceMethod ({ cls := "VeilMintModel", name := "h3", desc := "()V" } : Jvm.MethodName)) ∈ lw_all := lw_g (lw_at lw_m8 148 rfl) rfl
theorem q1926 : (Jvm.Cond.code ({ cls := "VeilMintModel", name := "h3", desc := "()V" } : Jvm.MethodName) prog_15_method_45_code (2 : Nat) (Option.none : Option Jvm.ClassFile.FieldType)) ∈ lw_all := lw_g (lw_at lw_m8 149 rfl) rfl
theorem q1927 : (Jvm.Cond.fieldLink "VeilMintModel" (299 : Nat) "VeilMintModel" "WIDE_STARTS" "[J") ∈ lw_all := lw_g (lw_at lw_m8 150 rfl) rfl
theorem q1928 : (Jvm.Cond.laysStatic "VeilMintModel" "WIDE_STARTS" "[J") ∈ lw_tbl := lw_at lw_m8 151 rfl
theorem q1929 : (Jvm.Cond.methodLink "VeilMintModel" (302 : Nat) ({ cls := "VeilMintModel", name := "wideBlock", desc := "(I)V" } : Jvm.MethodName)) ∈ lw_all := lw_g (lw_at lw_m8 152 rfl) rfl
theorem q1930 : (Jvm.Cond.privateMethod ({ cls := "VeilMintModel", name := "wideBlock", desc := "(I)V" } : Jvm.MethodName)) ∈ lw_tbl := lw_at lw_m8 153 rfl
theorem q1931 : (Jvm.Cond.instanceMethod ({ cls := "VeilMintModel", name := "wideBlock", desc := "(I)V" } : Jvm.MethodName)) ∈ lw_all := lw_g (lw_at lw_m8 154 rfl) rfl
theorem q1932 : (Jvm.Cond.code ({ cls := "VeilMintModel", name := "wideBlock", desc := "(I)V" } : Jvm.MethodName) prog_15_method_46_code (23 : Nat) (Option.none : Option Jvm.ClassFile.FieldType)) ∈ lw_all := lw_g (lw_at lw_m8 155 rfl) rfl
theorem q1933 : (Jvm.Cond.methodLink "VeilMintModel" (308 : Nat) ({ cls := "VeilMintModel", name := "roll", desc := "(JI)J" } : Jvm.MethodName)) ∈ lw_all := lw_g (lw_at lw_m8 156 rfl) rfl
theorem q1934 : (Jvm.Cond.static ({ cls := "VeilMintModel", name := "roll", desc := "(JI)J" } : Jvm.MethodName)) ∈ lw_all := lw_g (lw_at lw_m8 157 rfl) rfl
theorem q1935 : (Jvm.Cond.code ({ cls := "VeilMintModel", name := "roll", desc := "(JI)J" } : Jvm.MethodName) prog_15_method_42_code (3 : Nat) (Option.some Jvm.ClassFile.FieldType.long)) ∈ lw_all := lw_g (lw_at lw_m8 158 rfl) rfl
theorem q1936 : (Jvm.Cond.constantLong "VeilMintModel" (311 : Nat) (-1 : Int64)) ∈ lw_all := lw_g (lw_at lw_m8 159 rfl) rfl
theorem q1937 : (Jvm.Cond.fieldLink "VeilMintModel" (313 : Nat) "VeilMintModel" "WIDE_ROUNDS" "[J") ∈ lw_all := lw_g (lw_at lw_m8 160 rfl) rfl
theorem q1938 : (Jvm.Cond.laysStatic "VeilMintModel" "WIDE_ROUNDS" "[J") ∈ lw_tbl := lw_at lw_m8 161 rfl
theorem q1939 : (Jvm.Cond.methodLink "VeilMintModel" (363 : Nat) ({ cls := "VeilMintModel", name := "field", desc := "(LVeilMintModel$Mod;I[I)V" } : Jvm.MethodName)) ∈ lw_all := lw_g (lw_at lw_m8 162 rfl) rfl
theorem q1940 : (Jvm.Cond.privateMethod ({ cls := "VeilMintModel", name := "field", desc := "(LVeilMintModel$Mod;I[I)V" } : Jvm.MethodName)) ∈ lw_tbl := lw_at lw_m8 163 rfl
theorem q1941 : (Jvm.Cond.instanceMethod ({ cls := "VeilMintModel", name := "field", desc := "(LVeilMintModel$Mod;I[I)V" } : Jvm.MethodName)) ∈ lw_all := lw_g (lw_at lw_m8 164 rfl) rfl
theorem q1942 : (Jvm.Cond.code ({ cls := "VeilMintModel", name := "field", desc := "(LVeilMintModel$Mod;I[I)V" } : Jvm.MethodName) prog_15_method_50_code (4 : Nat) (Option.none : Option Jvm.ClassFile.FieldType)) ∈ lw_all := lw_g (lw_at lw_m8 165 rfl) rfl
theorem q1943 : (Jvm.Cond.methodLink "VeilMintModel" (394 : Nat) ({ cls := "VeilMintModel", name := "map", desc := "([ILVeilMintModel$Spot;)V" } : Jvm.MethodName)) ∈ lw_all := lw_g (lw_at lw_m8 166 rfl) rfl
theorem q1944 : (Jvm.Cond.privateMethod ({ cls := "VeilMintModel", name := "map", desc := "([ILVeilMintModel$Spot;)V" } : Jvm.MethodName)) ∈ lw_tbl := lw_at lw_m8 167 rfl
theorem q1945 : (Jvm.Cond.instanceMethod ({ cls := "VeilMintModel", name := "map", desc := "([ILVeilMintModel$Spot;)V" } : Jvm.MethodName)) ∈ lw_all := lw_g (lw_at lw_m8 168 rfl) rfl
theorem q1946 : (Jvm.Cond.code ({ cls := "VeilMintModel", name := "map", desc := "([ILVeilMintModel$Spot;)V" } : Jvm.MethodName) prog_15_method_52_code (4 : Nat) (Option.none : Option Jvm.ClassFile.FieldType)) ∈ lw_all := lw_g (lw_at lw_m8 169 rfl) rfl
theorem q1947 : (Jvm.Cond.fieldLink "VeilMintModel" (204 : Nat) "VeilMintModel" "B" "[I") ∈ lw_all := lw_g (lw_at lw_m8 170 rfl) rfl
theorem q1948 : (Jvm.Cond.laysStatic "VeilMintModel" "B" "[I") ∈ lw_tbl := lw_at lw_m8 171 rfl
theorem q1949 : (Jvm.Cond.methodLink "VeilMintModel" (221 : Nat) ({ cls := "VeilMintModel", name := "curve", desc := "([I[I)V" } : Jvm.MethodName)) ∈ lw_all := lw_g (lw_at lw_m8 172 rfl) rfl
theorem q1950 : (Jvm.Cond.privateMethod ({ cls := "VeilMintModel", name := "curve", desc := "([I[I)V" } : Jvm.MethodName)) ∈ lw_tbl := lw_at lw_m8 173 rfl
theorem q1951 : (Jvm.Cond.instanceMethod ({ cls := "VeilMintModel", name := "curve", desc := "([I[I)V" } : Jvm.MethodName)) ∈ lw_all := lw_g (lw_at lw_m8 174 rfl) rfl
theorem q1952 : (Jvm.Cond.code ({ cls := "VeilMintModel", name := "curve", desc := "([I[I)V" } : Jvm.MethodName) prog_15_method_29_code (3 : Nat) (Option.none : Option Jvm.ClassFile.FieldType)) ∈ lw_all := lw_g (lw_at lw_m8 175 rfl) rfl
theorem q1953 : (Jvm.Cond.methodLink "VeilMintModel" (225 : Nat) ({ cls := "VeilMintModel", name := "root", desc := "([I[I)Z" } : Jvm.MethodName)) ∈ lw_all := lw_g (lw_at lw_m8 176 rfl) rfl
theorem q1954 : (Jvm.Cond.privateMethod ({ cls := "VeilMintModel", name := "root", desc := "([I[I)Z" } : Jvm.MethodName)) ∈ lw_tbl := lw_at lw_m8 177 rfl
theorem q1955 : (Jvm.Cond.instanceMethod ({ cls := "VeilMintModel", name := "root", desc := "([I[I)Z" } : Jvm.MethodName)) ∈ lw_all := lw_g (lw_at lw_m8 178 rfl) rfl
theorem q1956 : (Jvm.Cond.code ({ cls := "VeilMintModel", name := "root", desc := "([I[I)Z" } : Jvm.MethodName) prog_15_method_30_code (3 : Nat) (Option.some Jvm.ClassFile.FieldType.boolean)) ∈ lw_all := lw_g (lw_at lw_m8 179 rfl) rfl
theorem q1957 : (Jvm.Cond.methodLink "VeilMintModel" (213 : Nat) ({ cls := "VeilMintModel", name := "power", desc := "(LVeilMintModel$Mod;[I[II[I)V" } : Jvm.MethodName)) ∈ lw_all := lw_g (lw_at lw_m8 180 rfl) rfl
theorem q1958 : (Jvm.Cond.privateMethod ({ cls := "VeilMintModel", name := "power", desc := "(LVeilMintModel$Mod;[I[II[I)V" } : Jvm.MethodName)) ∈ lw_tbl := lw_at lw_m8 181 rfl
theorem q1959 : (Jvm.Cond.instanceMethod ({ cls := "VeilMintModel", name := "power", desc := "(LVeilMintModel$Mod;[I[II[I)V" } : Jvm.MethodName)) ∈ lw_all := lw_g (lw_at lw_m8 182 rfl) rfl
theorem q1960 : (Jvm.Cond.code ({ cls := "VeilMintModel", name := "power", desc := "(LVeilMintModel$Mod;[I[II[I)V" } : Jvm.MethodName) prog_15_method_17_code (7 : Nat) (Option.none : Option Jvm.ClassFile.FieldType)) ∈ lw_all := lw_g (lw_at lw_m8 183 rfl) rfl
theorem q1961 : (Jvm.Cond.methodLink "VeilMintModel" (229 : Nat) ({ cls := "VeilMintModel", name := "turn", desc := "([I)V" } : Jvm.MethodName)) ∈ lw_all := lw_g (lw_at lw_m8 184 rfl) rfl
theorem q1962 : (Jvm.Cond.static ({ cls := "VeilMintModel", name := "turn", desc := "([I)V" } : Jvm.MethodName)) ∈ lw_all := lw_g (lw_at lw_m8 185 rfl) rfl
theorem q1963 : (Jvm.Cond.code ({ cls := "VeilMintModel", name := "turn", desc := "([I)V" } : Jvm.MethodName) prog_15_method_31_code (2 : Nat) (Option.none : Option Jvm.ClassFile.FieldType)) ∈ lw_all := lw_g (lw_at lw_m8 186 rfl) rfl
theorem q1964 : (Jvm.Cond.methodLink "VeilMintModel" (398 : Nat) ({ cls := "VeilMintModel", name := "join", desc := "(LVeilMintModel$Spot;LVeilMintModel$Spot;LVeilMintModel$Spot;)V" } : Jvm.MethodName)) ∈ lw_all := lw_g (lw_at lw_m8 187 rfl) rfl
theorem q1965 : (Jvm.Cond.privateMethod ({ cls := "VeilMintModel", name := "join", desc := "(LVeilMintModel$Spot;LVeilMintModel$Spot;LVeilMintModel$Spot;)V" } : Jvm.MethodName)) ∈ lw_tbl := lw_at lw_m8 188 rfl
theorem q1966 : (Jvm.Cond.instanceMethod ({ cls := "VeilMintModel", name := "join", desc := "(LVeilMintModel$Spot;LVeilMintModel$Spot;LVeilMintModel$Spot;)V" } : Jvm.MethodName)) ∈ lw_all := lw_g (lw_at lw_m8 189 rfl) rfl
theorem q1967 : (Jvm.Cond.code ({ cls := "VeilMintModel", name := "join", desc := "(LVeilMintModel$Spot;LVeilMintModel$Spot;LVeilMintModel$Spot;)V" } : Jvm.MethodName) prog_15_method_24_code (6 : Nat) (Option.none : Option Jvm.ClassFile.FieldType)) ∈ lw_all := lw_g (lw_at lw_m8 190 rfl) rfl
theorem q1968 : (Jvm.Cond.methodLink "VeilMintModel" (646 : Nat) ({ cls := "VeilMintModel", name := "blindsTwo", desc := "(II)Z" } : Jvm.MethodName)) ∈ lw_all := lw_g (lw_at lw_m8 191 rfl) rfl
theorem q1969 : (Jvm.Cond.privateMethod ({ cls := "VeilMintModel", name := "blindsTwo", desc := "(II)Z" } : Jvm.MethodName)) ∈ lw_tbl := lw_at lw_m8 192 rfl
theorem q1970 : (Jvm.Cond.instanceMethod ({ cls := "VeilMintModel", name := "blindsTwo", desc := "(II)Z" } : Jvm.MethodName)) ∈ lw_all := lw_g (lw_at lw_m8 193 rfl) rfl
theorem q1971 : (Jvm.Cond.code ({ cls := "VeilMintModel", name := "blindsTwo", desc := "(II)Z" } : Jvm.MethodName) prog_15_method_86_code (4 : Nat) (Option.some Jvm.ClassFile.FieldType.boolean)) ∈ lw_all := lw_g (lw_at lw_m8 194 rfl) rfl
theorem q1972 : (Jvm.Cond.methodLink "VeilMintModel" (654 : Nat) ({ cls := "VeilMintModel", name := "encodes", desc := "(I[BI[BI[I)V" } : Jvm.MethodName)) ∈ lw_all := lw_g (lw_at lw_m8 195 rfl) rfl
theorem q1973 : (Jvm.Cond.privateMethod ({ cls := "VeilMintModel", name := "encodes", desc := "(I[BI[BI[I)V" } : Jvm.MethodName)) ∈ lw_tbl := lw_at lw_m8 196 rfl
theorem q1974 : (Jvm.Cond.instanceMethod ({ cls := "VeilMintModel", name := "encodes", desc := "(I[BI[BI[I)V" } : Jvm.MethodName)) ∈ lw_all := lw_g (lw_at lw_m8 197 rfl) rfl
theorem q1975 : (Jvm.Cond.code ({ cls := "VeilMintModel", name := "encodes", desc := "(I[BI[BI[I)V" } : Jvm.MethodName) prog_15_method_67_code (13 : Nat) (Option.none : Option Jvm.ClassFile.FieldType)) ∈ lw_all := lw_g (lw_at lw_m8 198 rfl) rfl
theorem q1976 : (Jvm.Cond.methodLink "VeilMintModel" (588 : Nat) ({ cls := "VeilMintModel", name := "encodedSize", desc := "(LVeilMintModel$Mod;)I" } : Jvm.MethodName)) ∈ lw_all := lw_g (lw_at lw_m8 199 rfl) rfl
theorem q1977 : (Jvm.Cond.static ({ cls := "VeilMintModel", name := "encodedSize", desc := "(LVeilMintModel$Mod;)I" } : Jvm.MethodName)) ∈ lw_all := lw_g (lw_at lw_m8 200 rfl) rfl
theorem q1978 : (Jvm.Cond.code ({ cls := "VeilMintModel", name := "encodedSize", desc := "(LVeilMintModel$Mod;)I" } : Jvm.MethodName) prog_15_method_65_code (1 : Nat) (Option.some Jvm.ClassFile.FieldType.int)) ∈ lw_all := lw_g (lw_at lw_m8 201 rfl) rfl
theorem q1979 : (Jvm.Cond.methodLink "VeilMintModel" (585 : Nat) ({ cls := "VeilMintModel$Mod", name := "bits", desc := "()I" } : Jvm.MethodName)) ∈ lw_all := lw_g (lw_at lw_m8 202 rfl) rfl
theorem q1983 : (Jvm.Cond.methodLink "VeilMintModel" (592 : Nat) ({ cls := "VeilMintModel", name := "salted", desc := "([BI[BII)V" } : Jvm.MethodName)) ∈ lw_all := lw_g (lw_at lw_m8 206 rfl) rfl
theorem q1984 : (Jvm.Cond.privateMethod ({ cls := "VeilMintModel", name := "salted", desc := "([BI[BII)V" } : Jvm.MethodName)) ∈ lw_tbl := lw_at lw_m8 207 rfl
theorem q1985 : (Jvm.Cond.instanceMethod ({ cls := "VeilMintModel", name := "salted", desc := "([BI[BII)V" } : Jvm.MethodName)) ∈ lw_all := lw_g (lw_at lw_m8 208 rfl) rfl
theorem q1986 : (Jvm.Cond.code ({ cls := "VeilMintModel", name := "salted", desc := "([BI[BII)V" } : Jvm.MethodName) prog_15_method_63_code (7 : Nat) (Option.none : Option Jvm.ClassFile.FieldType)) ∈ lw_all := lw_g (lw_at lw_m8 209 rfl) rfl
theorem q1987 : (Jvm.Cond.methodLink "VeilMintModel" (596 : Nat) ({ cls := "VeilMintModel", name := "masks", desc := "([BII)V" } : Jvm.MethodName)) ∈ lw_all := lw_g (lw_at lw_m8 210 rfl) rfl
theorem q1988 : (Jvm.Cond.privateMethod ({ cls := "VeilMintModel", name := "masks", desc := "([BII)V" } : Jvm.MethodName)) ∈ lw_tbl := lw_at lw_m8 211 rfl
theorem q1989 : (Jvm.Cond.instanceMethod ({ cls := "VeilMintModel", name := "masks", desc := "([BII)V" } : Jvm.MethodName)) ∈ lw_all := lw_g (lw_at lw_m8 212 rfl) rfl
theorem q1990 : (Jvm.Cond.code ({ cls := "VeilMintModel", name := "masks", desc := "([BII)V" } : Jvm.MethodName) prog_15_method_64_code (6 : Nat) (Option.none : Option Jvm.ClassFile.FieldType)) ∈ lw_all := lw_g (lw_at lw_m8 213 rfl) rfl
theorem q1991 : (Jvm.Cond.methodLink "VeilMintModel" (599 : Nat) ({ cls := "VeilMintModel", name := "clear", desc := "(LVeilMintModel$Mod;)I" } : Jvm.MethodName)) ∈ lw_all := lw_g (lw_at lw_m8 214 rfl) rfl
theorem q1992 : (Jvm.Cond.static ({ cls := "VeilMintModel", name := "clear", desc := "(LVeilMintModel$Mod;)I" } : Jvm.MethodName)) ∈ lw_all := lw_g (lw_at lw_m8 215 rfl) rfl
theorem q1993 : (Jvm.Cond.code ({ cls := "VeilMintModel", name := "clear", desc := "(LVeilMintModel$Mod;)I" } : Jvm.MethodName) prog_15_method_66_code (1 : Nat) (Option.some Jvm.ClassFile.FieldType.int)) ∈ lw_all := lw_g (lw_at lw_m8 216 rfl) rfl
theorem q1994 : (Jvm.Cond.methodLink "VeilMintModel" (602 : Nat) ({ cls := "VeilMintModel", name := "byE", desc := "(I[I[I)V" } : Jvm.MethodName)) ∈ lw_all := lw_g (lw_at lw_m8 217 rfl) rfl
theorem q1995 : (Jvm.Cond.privateMethod ({ cls := "VeilMintModel", name := "byE", desc := "(I[I[I)V" } : Jvm.MethodName)) ∈ lw_tbl := lw_at lw_m8 218 rfl
theorem q1996 : (Jvm.Cond.instanceMethod ({ cls := "VeilMintModel", name := "byE", desc := "(I[I[I)V" } : Jvm.MethodName)) ∈ lw_all := lw_g (lw_at lw_m8 219 rfl) rfl
theorem q1997 : (Jvm.Cond.code ({ cls := "VeilMintModel", name := "byE", desc := "(I[I[I)V" } : Jvm.MethodName) prog_15_method_68_code (4 : Nat) (Option.none : Option Jvm.ClassFile.FieldType)) ∈ lw_all := lw_g (lw_at lw_m8 220 rfl) rfl
theorem q1999 : (Jvm.Cond.instanceMethod ({ cls := "VeilMintModel", name := "issue", desc := "()I" } : Jvm.MethodName)) ∈ lw_all := lw_g (lw_at lw_m8 222 rfl) rfl
theorem q2000 : (Jvm.Cond.selects "VeilMintModel" ({ cls := "VeilMintModel", name := "issue", desc := "()I" } : Jvm.MethodName) ({ cls := "VeilMintModel", name := "issue", desc := "()I" } : Jvm.MethodName)) ∈ lw_all := lw_g (lw_at lw_m8 223 rfl) rfl
theorem q2001 : (Jvm.Cond.code ({ cls := "VeilMintModel", name := "issue", desc := "()I" } : Jvm.MethodName) prog_15_method_89_code (3 : Nat) (Option.some Jvm.ClassFile.FieldType.int)) ∈ lw_all := lw_g (lw_at lw_m8 224 rfl) rfl
theorem q2002 : (Jvm.Cond.methodLink "VeilMintModel" (658 : Nat) ({ cls := "VeilMintModel", name := "isType", desc := "(I)Z" } : Jvm.MethodName)) ∈ lw_all := lw_g (lw_at lw_m8 225 rfl) rfl
theorem q2003 : (Jvm.Cond.privateMethod ({ cls := "VeilMintModel", name := "isType", desc := "(I)Z" } : Jvm.MethodName)) ∈ lw_tbl := lw_at lw_m8 226 rfl
theorem q2004 : (Jvm.Cond.instanceMethod ({ cls := "VeilMintModel", name := "isType", desc := "(I)Z" } : Jvm.MethodName)) ∈ lw_all := lw_g (lw_at lw_m8 227 rfl) rfl
theorem q2005 : (Jvm.Cond.code ({ cls := "VeilMintModel", name := "isType", desc := "(I)Z" } : Jvm.MethodName) prog_15_method_88_code (2 : Nat) (Option.some Jvm.ClassFile.FieldType.boolean)) ∈ lw_all := lw_g (lw_at lw_m8 228 rfl) rfl
theorem q2006 : (Jvm.Cond.methodLink "VeilMintModel" (661 : Nat) ({ cls := "VeilMintModel", name := "keyOf", desc := "(II)I" } : Jvm.MethodName)) ∈ lw_all := lw_g (lw_at lw_m8 229 rfl) rfl
theorem q2007 : (Jvm.Cond.privateMethod ({ cls := "VeilMintModel", name := "keyOf", desc := "(II)I" } : Jvm.MethodName)) ∈ lw_tbl := lw_at lw_m8 230 rfl
theorem q2008 : (Jvm.Cond.instanceMethod ({ cls := "VeilMintModel", name := "keyOf", desc := "(II)I" } : Jvm.MethodName)) ∈ lw_all := lw_g (lw_at lw_m8 231 rfl) rfl
theorem q2009 : (Jvm.Cond.code ({ cls := "VeilMintModel", name := "keyOf", desc := "(II)I" } : Jvm.MethodName) prog_15_method_87_code (5 : Nat) (Option.some Jvm.ClassFile.FieldType.int)) ∈ lw_all := lw_g (lw_at lw_m8 232 rfl) rfl
theorem q2010 : (Jvm.Cond.methodLink "VeilMintModel" (664 : Nat) ({ cls := "VeilMintModel", name := "gives", desc := "(II)I" } : Jvm.MethodName)) ∈ lw_all := lw_g (lw_at lw_m8 233 rfl) rfl
theorem q2011 : (Jvm.Cond.privateMethod ({ cls := "VeilMintModel", name := "gives", desc := "(II)I" } : Jvm.MethodName)) ∈ lw_tbl := lw_at lw_m8 234 rfl
theorem q2012 : (Jvm.Cond.instanceMethod ({ cls := "VeilMintModel", name := "gives", desc := "(II)I" } : Jvm.MethodName)) ∈ lw_all := lw_g (lw_at lw_m8 235 rfl) rfl
theorem q2013 : (Jvm.Cond.code ({ cls := "VeilMintModel", name := "gives", desc := "(II)I" } : Jvm.MethodName) prog_15_method_91_code (5 : Nat) (Option.some Jvm.ClassFile.FieldType.int)) ∈ lw_all := lw_g (lw_at lw_m8 236 rfl) rfl
theorem q2014 : (Jvm.Cond.methodLink "VeilMintModel" (670 : Nat) ({ cls := "VeilMintModel", name := "element", desc := "([BILVeilMintModel$Spot;)Z" } : Jvm.MethodName)) ∈ lw_all := lw_g (lw_at lw_m8 237 rfl) rfl
theorem q2015 : (Jvm.Cond.privateMethod ({ cls := "VeilMintModel", name := "element", desc := "([BILVeilMintModel$Spot;)Z" } : Jvm.MethodName)) ∈ lw_tbl := lw_at lw_m8 238 rfl
theorem q2016 : (Jvm.Cond.instanceMethod ({ cls := "VeilMintModel", name := "element", desc := "([BILVeilMintModel$Spot;)Z" } : Jvm.MethodName)) ∈ lw_all := lw_g (lw_at lw_m8 239 rfl) rfl
theorem q2017 : (Jvm.Cond.code ({ cls := "VeilMintModel", name := "element", desc := "([BILVeilMintModel$Spot;)Z" } : Jvm.MethodName) prog_15_method_32_code (4 : Nat) (Option.some Jvm.ClassFile.FieldType.boolean)) ∈ lw_all := lw_g (lw_at lw_m9 0 rfl) rfl
theorem q2018 : (Jvm.Cond.methodLink "VeilMintModel" (674 : Nat) ({ cls := "VeilMintModel", name := "proves", desc := "(II[I)Z" } : Jvm.MethodName)) ∈ lw_all := lw_g (lw_at lw_m9 1 rfl) rfl
theorem q2019 : (Jvm.Cond.privateMethod ({ cls := "VeilMintModel", name := "proves", desc := "(II[I)Z" } : Jvm.MethodName)) ∈ lw_tbl := lw_at lw_m9 2 rfl
theorem q2020 : (Jvm.Cond.instanceMethod ({ cls := "VeilMintModel", name := "proves", desc := "(II[I)Z" } : Jvm.MethodName)) ∈ lw_all := lw_g (lw_at lw_m9 3 rfl) rfl
theorem q2021 : (Jvm.Cond.code ({ cls := "VeilMintModel", name := "proves", desc := "(II[I)Z" } : Jvm.MethodName) prog_15_method_59_code (4 : Nat) (Option.some Jvm.ClassFile.FieldType.boolean)) ∈ lw_all := lw_g (lw_at lw_m9 4 rfl) rfl
theorem q2022 : (Jvm.Cond.methodLink "VeilMintModel" (461 : Nat) ({ cls := "VeilMintModel", name := "composes", desc := "(ILVeilMintModel$Spot;)V" } : Jvm.MethodName)) ∈ lw_all := lw_g (lw_at lw_m9 5 rfl) rfl
theorem q2023 : (Jvm.Cond.privateMethod ({ cls := "VeilMintModel", name := "composes", desc := "(ILVeilMintModel$Spot;)V" } : Jvm.MethodName)) ∈ lw_tbl := lw_at lw_m9 6 rfl
theorem q2024 : (Jvm.Cond.instanceMethod ({ cls := "VeilMintModel", name := "composes", desc := "(ILVeilMintModel$Spot;)V" } : Jvm.MethodName)) ∈ lw_all := lw_g (lw_at lw_m9 7 rfl) rfl
theorem q2025 : (Jvm.Cond.code ({ cls := "VeilMintModel", name := "composes", desc := "(ILVeilMintModel$Spot;)V" } : Jvm.MethodName) prog_15_method_57_code (4 : Nat) (Option.none : Option Jvm.ClassFile.FieldType)) ∈ lw_all := lw_g (lw_at lw_m9 8 rfl) rfl
theorem q2026 : (Jvm.Cond.stringRef "VeilMintModel" (412 : Nat) "Seed-") ∈ lw_tbl := lw_at lw_m9 9 rfl
theorem q2027 : (Jvm.Cond.methodLink "VeilMintModel" (409 : Nat) ({ cls := "VeilMintModel", name := "lays", desc := "([BII)V" } : Jvm.MethodName)) ∈ lw_all := lw_g (lw_at lw_m9 10 rfl) rfl
theorem q2028 : (Jvm.Cond.privateMethod ({ cls := "VeilMintModel", name := "lays", desc := "([BII)V" } : Jvm.MethodName)) ∈ lw_tbl := lw_at lw_m9 11 rfl
theorem q2029 : (Jvm.Cond.instanceMethod ({ cls := "VeilMintModel", name := "lays", desc := "([BII)V" } : Jvm.MethodName)) ∈ lw_all := lw_g (lw_at lw_m9 12 rfl) rfl
theorem q2030 : (Jvm.Cond.code ({ cls := "VeilMintModel", name := "lays", desc := "([BII)V" } : Jvm.MethodName) prog_15_method_54_code (5 : Nat) (Option.none : Option Jvm.ClassFile.FieldType)) ∈ lw_all := lw_g (lw_at lw_m9 13 rfl) rfl
theorem q2031 : (Jvm.Cond.methodLink "VeilMintModel" (426 : Nat) ({ cls := "VeilMintModel", name := "laysSpot", desc := "(LVeilMintModel$Spot;)V" } : Jvm.MethodName)) ∈ lw_all := lw_g (lw_at lw_m9 14 rfl) rfl
theorem q2032 : (Jvm.Cond.privateMethod ({ cls := "VeilMintModel", name := "laysSpot", desc := "(LVeilMintModel$Spot;)V" } : Jvm.MethodName)) ∈ lw_tbl := lw_at lw_m9 15 rfl
theorem q2033 : (Jvm.Cond.instanceMethod ({ cls := "VeilMintModel", name := "laysSpot", desc := "(LVeilMintModel$Spot;)V" } : Jvm.MethodName)) ∈ lw_all := lw_g (lw_at lw_m9 16 rfl) rfl
theorem q2034 : (Jvm.Cond.code ({ cls := "VeilMintModel", name := "laysSpot", desc := "(LVeilMintModel$Spot;)V" } : Jvm.MethodName) prog_15_method_56_code (2 : Nat) (Option.none : Option Jvm.ClassFile.FieldType)) ∈ lw_all := lw_g (lw_at lw_m9 17 rfl) rfl
theorem q2035 : (Jvm.Cond.stringRef "VeilMintModel" (432 : Nat) "Composite") ∈ lw_tbl := lw_at lw_m9 18 rfl
theorem q2036 : (Jvm.Cond.methodLink "VeilMintModel" (434 : Nat) ({ cls := "VeilMintModel", name := "laysWord", desc := "(Ljava/lang/String;)V" } : Jvm.MethodName)) ∈ lw_all := lw_g (lw_at lw_m9 19 rfl) rfl
theorem q2037 : (Jvm.Cond.privateMethod ({ cls := "VeilMintModel", name := "laysWord", desc := "(Ljava/lang/String;)V" } : Jvm.MethodName)) ∈ lw_tbl := lw_at lw_m9 20 rfl
theorem q2038 : (Jvm.Cond.instanceMethod ({ cls := "VeilMintModel", name := "laysWord", desc := "(Ljava/lang/String;)V" } : Jvm.MethodName)) ∈ lw_all := lw_g (lw_at lw_m9 21 rfl) rfl
theorem q2039 : (Jvm.Cond.code ({ cls := "VeilMintModel", name := "laysWord", desc := "(Ljava/lang/String;)V" } : Jvm.MethodName) prog_15_method_55_code (3 : Nat) (Option.none : Option Jvm.ClassFile.FieldType)) ∈ lw_all := lw_g (lw_at lw_m9 22 rfl) rfl
theorem q2040 : (Jvm.Cond.methodLink "VeilMintModel" (440 : Nat) ({ cls := "VeilMintModel", name := "toScalar", desc := "([I)V" } : Jvm.MethodName)) ∈ lw_all := lw_g (lw_at lw_m9 23 rfl) rfl
theorem q2041 : (Jvm.Cond.privateMethod ({ cls := "VeilMintModel", name := "toScalar", desc := "([I)V" } : Jvm.MethodName)) ∈ lw_tbl := lw_at lw_m9 24 rfl
theorem q2042 : (Jvm.Cond.instanceMethod ({ cls := "VeilMintModel", name := "toScalar", desc := "([I)V" } : Jvm.MethodName)) ∈ lw_all := lw_g (lw_at lw_m9 25 rfl) rfl
theorem q2043 : (Jvm.Cond.code ({ cls := "VeilMintModel", name := "toScalar", desc := "([I)V" } : Jvm.MethodName) prog_15_method_51_code (2 : Nat) (Option.none : Option Jvm.ClassFile.FieldType)) ∈ lw_all := lw_g (lw_at lw_m9 26 rfl) rfl
theorem q2044 : (Jvm.Cond.stringRef "VeilMintModel" (352 : Nat) "HashToScalar-") ∈ lw_tbl := lw_at lw_m9 27 rfl
theorem q2045 : (Jvm.Cond.methodLink "VeilMintModel" (471 : Nat) ({ cls := "VeilMintModel", name := "challenges", desc := "(LVeilMintModel$Spot;[I)Z" } : Jvm.MethodName)) ∈ lw_all := lw_g (lw_at lw_m9 28 rfl) rfl
theorem q2046 : (Jvm.Cond.privateMethod ({ cls := "VeilMintModel", name := "challenges", desc := "(LVeilMintModel$Spot;[I)Z" } : Jvm.MethodName)) ∈ lw_tbl := lw_at lw_m9 29 rfl
theorem q2047 : (Jvm.Cond.instanceMethod ({ cls := "VeilMintModel", name := "challenges", desc := "(LVeilMintModel$Spot;[I)Z" } : Jvm.MethodName)) ∈ lw_all := lw_g (lw_at lw_m9 30 rfl) rfl
theorem q2048 : (Jvm.Cond.code ({ cls := "VeilMintModel", name := "challenges", desc := "(LVeilMintModel$Spot;[I)Z" } : Jvm.MethodName) prog_15_method_58_code (3 : Nat) (Option.some Jvm.ClassFile.FieldType.boolean)) ∈ lw_all := lw_g (lw_at lw_m9 31 rfl) rfl
theorem q2049 : (Jvm.Cond.stringRef "VeilMintModel" (456 : Nat) "Challenge") ∈ lw_tbl := lw_at lw_m9 32 rfl
theorem q2050 : (Jvm.Cond.methodLink "VeilMintModel" (667 : Nat) ({ cls := "VeilMintModel", name := "signs", desc := "(I)I" } : Jvm.MethodName)) ∈ lw_all := lw_g (lw_at lw_m9 33 rfl) rfl
theorem q2051 : (Jvm.Cond.privateMethod ({ cls := "VeilMintModel", name := "signs", desc := "(I)I" } : Jvm.MethodName)) ∈ lw_tbl := lw_at lw_m9 34 rfl
theorem q2052 : (Jvm.Cond.instanceMethod ({ cls := "VeilMintModel", name := "signs", desc := "(I)I" } : Jvm.MethodName)) ∈ lw_all := lw_g (lw_at lw_m9 35 rfl) rfl
theorem q2053 : (Jvm.Cond.code ({ cls := "VeilMintModel", name := "signs", desc := "(I)I" } : Jvm.MethodName) prog_15_method_92_code (3 : Nat) (Option.some Jvm.ClassFile.FieldType.int)) ∈ lw_all := lw_g (lw_at lw_m9 36 rfl) rfl
theorem q2055 : (Jvm.Cond.instanceMethod ({ cls := "VeilMintModel", name := "issueMany", desc := "(I)I" } : Jvm.MethodName)) ∈ lw_all := lw_g (lw_at lw_m9 38 rfl) rfl
theorem q2056 : (Jvm.Cond.selects "VeilMintModel" ({ cls := "VeilMintModel", name := "issueMany", desc := "(I)I" } : Jvm.MethodName) ({ cls := "VeilMintModel", name := "issueMany", desc := "(I)I" } : Jvm.MethodName)) ∈ lw_all := lw_g (lw_at lw_m9 39 rfl) rfl
theorem q2057 : (Jvm.Cond.code ({ cls := "VeilMintModel", name := "issueMany", desc := "(I)I" } : Jvm.MethodName) prog_15_method_90_code (4 : Nat) (Option.some Jvm.ClassFile.FieldType.int)) ∈ lw_all := lw_g (lw_at lw_m9 40 rfl) rfl
theorem q2059 : (Jvm.Cond.instanceMethod ({ cls := "VeilMintModel", name := "finalize", desc := "(I)I" } : Jvm.MethodName)) ∈ lw_all := lw_g (lw_at lw_m9 42 rfl) rfl
theorem q2060 : (Jvm.Cond.selects "VeilMintModel" ({ cls := "VeilMintModel", name := "finalize", desc := "(I)I" } : Jvm.MethodName) ({ cls := "VeilMintModel", name := "finalize", desc := "(I)I" } : Jvm.MethodName)) ∈ lw_all := lw_g (lw_at lw_m9 43 rfl) rfl
theorem q2061 : (Jvm.Cond.code ({ cls := "VeilMintModel", name := "finalize", desc := "(I)I" } : Jvm.MethodName) prog_15_method_94_code (4 : Nat) (Option.some Jvm.ClassFile.FieldType.int)) ∈ lw_all := lw_g (lw_at lw_m9 44 rfl) rfl
theorem q2062 : (Jvm.Cond.methodLink "VeilMintModel" (678 : Nat) ({ cls := "VeilMintModel", name := "isAsking", desc := "(I)Z" } : Jvm.MethodName)) ∈ lw_all := lw_g (lw_at lw_m9 45 rfl) rfl
theorem q2063 : (Jvm.Cond.privateMethod ({ cls := "VeilMintModel", name := "isAsking", desc := "(I)Z" } : Jvm.MethodName)) ∈ lw_tbl := lw_at lw_m9 46 rfl
theorem q2064 : (Jvm.Cond.instanceMethod ({ cls := "VeilMintModel", name := "isAsking", desc := "(I)Z" } : Jvm.MethodName)) ∈ lw_all := lw_g (lw_at lw_m9 47 rfl) rfl
theorem q2065 : (Jvm.Cond.code ({ cls := "VeilMintModel", name := "isAsking", desc := "(I)Z" } : Jvm.MethodName) prog_15_method_93_code (2 : Nat) (Option.some Jvm.ClassFile.FieldType.boolean)) ∈ lw_all := lw_g (lw_at lw_m9 48 rfl) rfl
theorem q2066 : (Jvm.Cond.methodLink "VeilMintModel" (681 : Nat) ({ cls := "VeilMintModel", name := "ends", desc := "(III)I" } : Jvm.MethodName)) ∈ lw_all := lw_g (lw_at lw_m9 49 rfl) rfl
theorem q2067 : (Jvm.Cond.privateMethod ({ cls := "VeilMintModel", name := "ends", desc := "(III)I" } : Jvm.MethodName)) ∈ lw_tbl := lw_at lw_m9 50 rfl
theorem q2068 : (Jvm.Cond.instanceMethod ({ cls := "VeilMintModel", name := "ends", desc := "(III)I" } : Jvm.MethodName)) ∈ lw_all := lw_g (lw_at lw_m9 51 rfl) rfl
theorem q2069 : (Jvm.Cond.code ({ cls := "VeilMintModel", name := "ends", desc := "(III)I" } : Jvm.MethodName) prog_15_method_97_code (8 : Nat) (Option.some Jvm.ClassFile.FieldType.int)) ∈ lw_all := lw_g (lw_at lw_m9 52 rfl) rfl
theorem q2070 : (Jvm.Cond.methodLink "VeilMintModel" (690 : Nat) ({ cls := "VeilMintModel", name := "isProved", desc := "(II)Z" } : Jvm.MethodName)) ∈ lw_all := lw_g (lw_at lw_m9 53 rfl) rfl
theorem q2071 : (Jvm.Cond.privateMethod ({ cls := "VeilMintModel", name := "isProved", desc := "(II)Z" } : Jvm.MethodName)) ∈ lw_tbl := lw_at lw_m9 54 rfl
theorem q2072 : (Jvm.Cond.instanceMethod ({ cls := "VeilMintModel", name := "isProved", desc := "(II)Z" } : Jvm.MethodName)) ∈ lw_all := lw_g (lw_at lw_m9 55 rfl) rfl
theorem q2073 : (Jvm.Cond.code ({ cls := "VeilMintModel", name := "isProved", desc := "(II)Z" } : Jvm.MethodName) prog_15_method_60_code (3 : Nat) (Option.some Jvm.ClassFile.FieldType.boolean)) ∈ lw_all := lw_g (lw_at lw_m9 56 rfl) rfl
theorem q2074 : (Jvm.Cond.methodLink "VeilMintModel" (693 : Nat) ({ cls := "VeilMintModel", name := "output", desc := "([BILVeilMintModel$Spot;)V" } : Jvm.MethodName)) ∈ lw_all := lw_g (lw_at lw_m9 57 rfl) rfl
theorem q2075 : (Jvm.Cond.privateMethod ({ cls := "VeilMintModel", name := "output", desc := "([BILVeilMintModel$Spot;)V" } : Jvm.MethodName)) ∈ lw_tbl := lw_at lw_m9 58 rfl
theorem q2076 : (Jvm.Cond.instanceMethod ({ cls := "VeilMintModel", name := "output", desc := "([BILVeilMintModel$Spot;)V" } : Jvm.MethodName)) ∈ lw_all := lw_g (lw_at lw_m9 59 rfl) rfl
theorem q2077 : (Jvm.Cond.code ({ cls := "VeilMintModel", name := "output", desc := "([BILVeilMintModel$Spot;)V" } : Jvm.MethodName) prog_15_method_96_code (4 : Nat) (Option.none : Option Jvm.ClassFile.FieldType)) ∈ lw_all := lw_g (lw_at lw_m9 60 rfl) rfl
theorem q2078 : (Jvm.Cond.stringRef "VeilMintModel" (688 : Nat) "Finalize") ∈ lw_tbl := lw_at lw_m9 61 rfl
theorem q2079 : (Jvm.Cond.methodLink "VeilMintModel" (685 : Nat) ({ cls := "VeilMintModel", name := "endsTwo", desc := "(II)I" } : Jvm.MethodName)) ∈ lw_all := lw_g (lw_at lw_m9 62 rfl) rfl
theorem q2080 : (Jvm.Cond.privateMethod ({ cls := "VeilMintModel", name := "endsTwo", desc := "(II)I" } : Jvm.MethodName)) ∈ lw_tbl := lw_at lw_m9 63 rfl
theorem q2081 : (Jvm.Cond.instanceMethod ({ cls := "VeilMintModel", name := "endsTwo", desc := "(II)I" } : Jvm.MethodName)) ∈ lw_all := lw_g (lw_at lw_m9 64 rfl) rfl
theorem q2082 : (Jvm.Cond.code ({ cls := "VeilMintModel", name := "endsTwo", desc := "(II)I" } : Jvm.MethodName) prog_15_method_98_code (6 : Nat) (Option.some Jvm.ClassFile.FieldType.int)) ∈ lw_all := lw_g (lw_at lw_m9 65 rfl) rfl
theorem q2083 : (Jvm.Cond.methodLink "VeilMintModel" (697 : Nat) ({ cls := "VeilMintModel", name := "isSigned", desc := "(I[BI[I)Z" } : Jvm.MethodName)) ∈ lw_all := lw_g (lw_at lw_m9 66 rfl) rfl
theorem q2084 : (Jvm.Cond.privateMethod ({ cls := "VeilMintModel", name := "isSigned", desc := "(I[BI[I)Z" } : Jvm.MethodName)) ∈ lw_tbl := lw_at lw_m9 67 rfl
theorem q2085 : (Jvm.Cond.instanceMethod ({ cls := "VeilMintModel", name := "isSigned", desc := "(I[BI[I)Z" } : Jvm.MethodName)) ∈ lw_all := lw_g (lw_at lw_m9 68 rfl) rfl
theorem q2086 : (Jvm.Cond.code ({ cls := "VeilMintModel", name := "isSigned", desc := "(I[BI[I)Z" } : Jvm.MethodName) prog_15_method_69_code (11 : Nat) (Option.some Jvm.ClassFile.FieldType.boolean)) ∈ lw_all := lw_g (lw_at lw_m9 69 rfl) rfl
theorem q2088 : (Jvm.Cond.instanceMethod ({ cls := "VeilMintModel", name := "finalizeMany", desc := "(II)I" } : Jvm.MethodName)) ∈ lw_all := lw_g (lw_at lw_m9 71 rfl) rfl
theorem q2089 : (Jvm.Cond.selects "VeilMintModel" ({ cls := "VeilMintModel", name := "finalizeMany", desc := "(II)I" } : Jvm.MethodName) ({ cls := "VeilMintModel", name := "finalizeMany", desc := "(II)I" } : Jvm.MethodName)) ∈ lw_all := lw_g (lw_at lw_m9 72 rfl) rfl
theorem q2090 : (Jvm.Cond.code ({ cls := "VeilMintModel", name := "finalizeMany", desc := "(II)I" } : Jvm.MethodName) prog_15_method_95_code (6 : Nat) (Option.some Jvm.ClassFile.FieldType.int)) ∈ lw_all := lw_g (lw_at lw_m9 73 rfl) rfl
theorem q2092 : (Jvm.Cond.instanceMethod ({ cls := "VeilMintModel", name := "redeem", desc := "()I" } : Jvm.MethodName)) ∈ lw_all := lw_g (lw_at lw_m9 75 rfl) rfl
theorem q2093 : (Jvm.Cond.selects "VeilMintModel" ({ cls := "VeilMintModel", name := "redeem", desc := "()I" } : Jvm.MethodName) ({ cls := "VeilMintModel", name := "redeem", desc := "()I" } : Jvm.MethodName)) ∈ lw_all := lw_g (lw_at lw_m9 76 rfl) rfl
theorem q2094 : (Jvm.Cond.code ({ cls := "VeilMintModel", name := "redeem", desc := "()I" } : Jvm.MethodName) prog_15_method_103_code (9 : Nat) (Option.some Jvm.ClassFile.FieldType.int)) ∈ lw_all := lw_g (lw_at lw_m9 77 rfl) rfl
theorem q2095 : (Jvm.Cond.methodLink "VeilMintModel" (707 : Nat) ({ cls := "VeilMintModel", name := "isRight", desc := "(I)Z" } : Jvm.MethodName)) ∈ lw_all := lw_g (lw_at lw_m9 78 rfl) rfl
theorem q2096 : (Jvm.Cond.privateMethod ({ cls := "VeilMintModel", name := "isRight", desc := "(I)Z" } : Jvm.MethodName)) ∈ lw_tbl := lw_at lw_m9 79 rfl
theorem q2097 : (Jvm.Cond.instanceMethod ({ cls := "VeilMintModel", name := "isRight", desc := "(I)Z" } : Jvm.MethodName)) ∈ lw_all := lw_g (lw_at lw_m9 80 rfl) rfl
theorem q2098 : (Jvm.Cond.code ({ cls := "VeilMintModel", name := "isRight", desc := "(I)Z" } : Jvm.MethodName) prog_15_method_102_code (4 : Nat) (Option.some Jvm.ClassFile.FieldType.boolean)) ∈ lw_all := lw_g (lw_at lw_m9 81 rfl) rfl
theorem q2099 : (Jvm.Cond.constantLong "VeilMintModel" (710 : Nat) (112 : Int64)) ∈ lw_all := lw_g (lw_at lw_m9 82 rfl) rfl
theorem q2100 : (Jvm.Cond.methodLink "VeilMintModel" (712 : Nat) ({ cls := "VeilMintModel", name := "isFree", desc := "(I)Z" } : Jvm.MethodName)) ∈ lw_all := lw_g (lw_at lw_m9 83 rfl) rfl
theorem q2101 : (Jvm.Cond.privateMethod ({ cls := "VeilMintModel", name := "isFree", desc := "(I)Z" } : Jvm.MethodName)) ∈ lw_tbl := lw_at lw_m9 84 rfl
theorem q2102 : (Jvm.Cond.instanceMethod ({ cls := "VeilMintModel", name := "isFree", desc := "(I)Z" } : Jvm.MethodName)) ∈ lw_all := lw_g (lw_at lw_m9 85 rfl) rfl
theorem q2103 : (Jvm.Cond.code ({ cls := "VeilMintModel", name := "isFree", desc := "(I)Z" } : Jvm.MethodName) prog_15_method_100_code (3 : Nat) (Option.some Jvm.ClassFile.FieldType.boolean)) ∈ lw_all := lw_g (lw_at lw_m9 86 rfl) rfl
theorem q2104 : (Jvm.Cond.methodLink "VeilMintModel" (701 : Nat) ({ cls := "VeilMintModel", name := "slot", desc := "(I)I" } : Jvm.MethodName)) ∈ lw_all := lw_g (lw_at lw_m9 87 rfl) rfl
theorem q2105 : (Jvm.Cond.static ({ cls := "VeilMintModel", name := "slot", desc := "(I)I" } : Jvm.MethodName)) ∈ lw_all := lw_g (lw_at lw_m9 88 rfl) rfl
theorem q2106 : (Jvm.Cond.code ({ cls := "VeilMintModel", name := "slot", desc := "(I)I" } : Jvm.MethodName) prog_15_method_99_code (1 : Nat) (Option.some Jvm.ClassFile.FieldType.int)) ∈ lw_all := lw_g (lw_at lw_m9 89 rfl) rfl
theorem q2107 : (Jvm.Cond.methodLink "VeilMintModel" (715 : Nat) ({ cls := "VeilMintModel", name := "isIn", desc := "(I)Z" } : Jvm.MethodName)) ∈ lw_all := lw_g (lw_at lw_m9 90 rfl) rfl
theorem q2108 : (Jvm.Cond.privateMethod ({ cls := "VeilMintModel", name := "isIn", desc := "(I)Z" } : Jvm.MethodName)) ∈ lw_tbl := lw_at lw_m9 91 rfl
theorem q2109 : (Jvm.Cond.instanceMethod ({ cls := "VeilMintModel", name := "isIn", desc := "(I)Z" } : Jvm.MethodName)) ∈ lw_all := lw_g (lw_at lw_m9 92 rfl) rfl
theorem q2110 : (Jvm.Cond.code ({ cls := "VeilMintModel", name := "isIn", desc := "(I)Z" } : Jvm.MethodName) prog_15_method_101_code (4 : Nat) (Option.some Jvm.ClassFile.FieldType.boolean)) ∈ lw_all := lw_g (lw_at lw_m9 93 rfl) rfl
theorem q2112 : (Jvm.Cond.instanceMethod ({ cls := "VeilMintModel", name := "cut", desc := "(I)Z" } : Jvm.MethodName)) ∈ lw_all := lw_g (lw_at lw_m9 95 rfl) rfl
theorem q2113 : (Jvm.Cond.selects "VeilMintModel" ({ cls := "VeilMintModel", name := "cut", desc := "(I)Z" } : Jvm.MethodName) ({ cls := "VeilMintModel", name := "cut", desc := "(I)Z" } : Jvm.MethodName)) ∈ lw_all := lw_g (lw_at lw_m9 96 rfl) rfl
theorem q2114 : (Jvm.Cond.code ({ cls := "VeilMintModel", name := "cut", desc := "(I)Z" } : Jvm.MethodName) prog_15_method_104_code (2 : Nat) (Option.some Jvm.ClassFile.FieldType.boolean)) ∈ lw_all := lw_g (lw_at lw_m9 97 rfl) rfl
theorem q2116 : (Jvm.Cond.instanceMethod ({ cls := "VeilMintModel", name := "power", desc := "()I" } : Jvm.MethodName)) ∈ lw_all := lw_g (lw_at lw_m9 99 rfl) rfl
theorem q2117 : (Jvm.Cond.selects "VeilMintModel" ({ cls := "VeilMintModel", name := "power", desc := "()I" } : Jvm.MethodName) ({ cls := "VeilMintModel", name := "power", desc := "()I" } : Jvm.MethodName)) ∈ lw_all := lw_g (lw_at lw_m9 100 rfl) rfl
theorem q2118 : (Jvm.Cond.code ({ cls := "VeilMintModel", name := "power", desc := "()I" } : Jvm.MethodName) prog_15_method_106_code (1 : Nat) (Option.some Jvm.ClassFile.FieldType.int)) ∈ lw_all := lw_g (lw_at lw_m9 101 rfl) rfl
theorem q2119 : (Jvm.Cond.methodLink "VeilMintModel" (724 : Nat) ({ cls := "VeilMintModel", name := "spent", desc := "()I" } : Jvm.MethodName)) ∈ lw_all := lw_g (lw_at lw_m9 102 rfl) rfl
theorem q2120 : (Jvm.Cond.privateMethod ({ cls := "VeilMintModel", name := "spent", desc := "()I" } : Jvm.MethodName)) ∈ lw_tbl := lw_at lw_m9 103 rfl
theorem q2121 : (Jvm.Cond.instanceMethod ({ cls := "VeilMintModel", name := "spent", desc := "()I" } : Jvm.MethodName)) ∈ lw_all := lw_g (lw_at lw_m9 104 rfl) rfl
theorem q2122 : (Jvm.Cond.code ({ cls := "VeilMintModel", name := "spent", desc := "()I" } : Jvm.MethodName) prog_15_method_105_code (3 : Nat) (Option.some Jvm.ClassFile.FieldType.int)) ∈ lw_all := lw_g (lw_at lw_m9 105 rfl) rfl
theorem q2124 : (Jvm.Cond.instanceMethod ({ cls := "VeilMintModel", name := "disk", desc := "(I)I" } : Jvm.MethodName)) ∈ lw_all := lw_g (lw_at lw_m9 107 rfl) rfl
theorem q2125 : (Jvm.Cond.selects "VeilMintModel" ({ cls := "VeilMintModel", name := "disk", desc := "(I)I" } : Jvm.MethodName) ({ cls := "VeilMintModel", name := "disk", desc := "(I)I" } : Jvm.MethodName)) ∈ lw_all := lw_g (lw_at lw_m9 108 rfl) rfl
theorem q2126 : (Jvm.Cond.code ({ cls := "VeilMintModel", name := "disk", desc := "(I)I" } : Jvm.MethodName) prog_15_method_107_code (2 : Nat) (Option.some Jvm.ClassFile.FieldType.int)) ∈ lw_all := lw_g (lw_at lw_m9 109 rfl) rfl
theorem q2128 : (Jvm.Cond.instanceMethod ({ cls := "VeilMintModel", name := "count", desc := "(I)I" } : Jvm.MethodName)) ∈ lw_all := lw_g (lw_at lw_m9 111 rfl) rfl
theorem q2129 : (Jvm.Cond.selects "VeilMintModel" ({ cls := "VeilMintModel", name := "count", desc := "(I)I" } : Jvm.MethodName) ({ cls := "VeilMintModel", name := "count", desc := "(I)I" } : Jvm.MethodName)) ∈ lw_all := lw_g (lw_at lw_m9 112 rfl) rfl
theorem q2130 : (Jvm.Cond.code ({ cls := "VeilMintModel", name := "count", desc := "(I)I" } : Jvm.MethodName) prog_15_method_108_code (4 : Nat) (Option.some Jvm.ClassFile.FieldType.int)) ∈ lw_all := lw_g (lw_at lw_m9 113 rfl) rfl
theorem q2150 : (Jvm.Cond.castable "VeilMintModel" "java/lang/Object") ∈ lw_tbl := lw_at lw_m9 133 rfl
theorem in_X10 : ∀ w ∈ wsX100, w ∈ lw_all := lw_in wsX100 [1505, 1507, 1509, 1511, 1513, 1515, 1517, 1519, 1521, 1523, 1525, 1527, 1529, 1531, 1533, 1535, 1537, 1539, 1541, 1543, 1545, 1547, 1549, 1551, 1553, 1555, 1557, 1559, 1561, 1563, 1565, 1567, 1569, 1571, 1573, 1575, 1577, 1579, 1581, 1583, 1585, 1587, 1589, 1591, 1593, 1595, 1597, 1599, 1601, 1603, 1605, 1607, 1609, 1611, 1613, 1615, 1617, 1619, 1621, 1623, 1625, 1627, 1629, 1631, 1633, 1635, 1637, 1639, 1641, 1643, 1645, 1647, 1649, 1651, 1653, 1655, 1657, 1659, 1661, 1663, 1665, 1667, 1669, 1671, 1673, 1675, 1677, 1679, 1681, 1683, 1685, 1687, 1689, 1691, 1693, 1695] (by decide +kernel) (by decide +kernel)
