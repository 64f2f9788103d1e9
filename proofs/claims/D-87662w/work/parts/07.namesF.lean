set_option maxRecDepth 100000
theorem dX10_keyId_137 : decode cX10_keyId 137 = .ok (.getfield 283, 3) := by decide +kernel
theorem dX10_keyId_140 : decode cX10_keyId 140 = .ok (.iload_n 2, 1) := by decide +kernel
theorem dX10_keyId_141 : decode cX10_keyId 141 = .ok (.baload, 1) := by decide +kernel
theorem dX10_keyId_142 : decode cX10_keyId 142 = .ok (.bastore, 1) := by decide +kernel
theorem dX10_keyId_143 : decode cX10_keyId 143 = .ok (.iinc 2 1, 3) := by decide +kernel
theorem dX10_keyId_146 : decode cX10_keyId 146 = .ok (.goto (-26), 3) := by decide +kernel
theorem dX10_keyId_149 : decode cX10_keyId 149 = .ok (.return_, 1) := by decide +kernel
abbrev cX10_bytes : ByteArray := prog_15_method_33_code
def yX10_bytes : MethodName := ⟨RX10, "bytes", "(LVeilMintModel$Spot;[BI)V"⟩
theorem dX10_bytes_0 : decode cX10_bytes 0 = .ok (.aload_n 1, 1) := by decide +kernel
theorem dX10_bytes_1 : decode cX10_bytes 1 = .ok (.iload_n 2, 1) := by decide +kernel
theorem dX10_bytes_2 : decode cX10_bytes 2 = .ok (.iconst 2, 1) := by decide +kernel
theorem dX10_bytes_3 : decode cX10_bytes 3 = .ok (.aload_n 0, 1) := by decide +kernel
theorem dX10_bytes_4 : decode cX10_bytes 4 = .ok (.getfield 149, 3) := by decide +kernel
theorem dX10_bytes_7 : decode cX10_bytes 7 = .ok (.iconst 0, 1) := by decide +kernel
theorem dX10_bytes_8 : decode cX10_bytes 8 = .ok (.iaload, 1) := by decide +kernel
theorem dX10_bytes_9 : decode cX10_bytes 9 = .ok (.iconst 1, 1) := by decide +kernel
theorem dX10_bytes_10 : decode cX10_bytes 10 = .ok (.iand, 1) := by decide +kernel
theorem dX10_bytes_11 : decode cX10_bytes 11 = .ok (.iadd, 1) := by decide +kernel
theorem dX10_bytes_12 : decode cX10_bytes 12 = .ok (.i2b, 1) := by decide +kernel
theorem dX10_bytes_13 : decode cX10_bytes 13 = .ok (.bastore, 1) := by decide +kernel
theorem dX10_bytes_14 : decode cX10_bytes 14 = .ok (.aload_n 0, 1) := by decide +kernel
theorem dX10_bytes_15 : decode cX10_bytes 15 = .ok (.getfield 146, 3) := by decide +kernel
theorem dX10_bytes_18 : decode cX10_bytes 18 = .ok (.aload_n 1, 1) := by decide +kernel
theorem dX10_bytes_19 : decode cX10_bytes 19 = .ok (.iload_n 2, 1) := by decide +kernel
theorem dX10_bytes_20 : decode cX10_bytes 20 = .ok (.iconst 1, 1) := by decide +kernel
theorem dX10_bytes_21 : decode cX10_bytes 21 = .ok (.iadd, 1) := by decide +kernel
theorem dX10_bytes_22 : decode cX10_bytes 22 = .ok (.bipush 48, 2) := by decide +kernel
theorem dX10_bytes_24 : decode cX10_bytes 24 = .ok (.invokestatic 232, 3) := by decide +kernel
theorem dX10_bytes_27 : decode cX10_bytes 27 = .ok (.return_, 1) := by decide +kernel
abbrev cX10_store : ByteArray := prog_15_method_23_code
def yX10_store : MethodName := ⟨RX10, "store", "([I[BII)V"⟩
theorem dX10_store_0 : decode cX10_store 0 = .ok (.iconst 0, 1) := by decide +kernel
theorem dX10_store_1 : decode cX10_store 1 = .ok (.istore 4, 2) := by decide +kernel
theorem dX10_store_3 : decode cX10_store 3 = .ok (.iload 4, 2) := by decide +kernel
theorem dX10_store_5 : decode cX10_store 5 = .ok (.iload_n 3, 1) := by decide +kernel
theorem dX10_store_6 : decode cX10_store 6 = .ok (.if_icmp .ge 34, 3) := by decide +kernel
theorem dX10_store_9 : decode cX10_store 9 = .ok (.aload_n 1, 1) := by decide +kernel
theorem dX10_store_10 : decode cX10_store 10 = .ok (.iload_n 2, 1) := by decide +kernel
theorem dX10_store_11 : decode cX10_store 11 = .ok (.iload_n 3, 1) := by decide +kernel
theorem dX10_store_12 : decode cX10_store 12 = .ok (.iadd, 1) := by decide +kernel
theorem dX10_store_13 : decode cX10_store 13 = .ok (.iconst 1, 1) := by decide +kernel
theorem dX10_store_14 : decode cX10_store 14 = .ok (.isub, 1) := by decide +kernel
theorem dX10_store_15 : decode cX10_store 15 = .ok (.iload 4, 2) := by decide +kernel
theorem dX10_store_17 : decode cX10_store 17 = .ok (.isub, 1) := by decide +kernel
theorem dX10_store_18 : decode cX10_store 18 = .ok (.aload_n 0, 1) := by decide +kernel
theorem dX10_store_19 : decode cX10_store 19 = .ok (.iload 4, 2) := by decide +kernel
theorem dX10_store_21 : decode cX10_store 21 = .ok (.iconst 4, 1) := by decide +kernel
theorem dX10_store_22 : decode cX10_store 22 = .ok (.idiv, 1) := by decide +kernel
theorem dX10_store_23 : decode cX10_store 23 = .ok (.iaload, 1) := by decide +kernel
theorem dX10_store_24 : decode cX10_store 24 = .ok (.bipush 8, 2) := by decide +kernel
theorem dX10_store_26 : decode cX10_store 26 = .ok (.iload 4, 2) := by decide +kernel
theorem dX10_store_28 : decode cX10_store 28 = .ok (.iconst 4, 1) := by decide +kernel
theorem dX10_store_29 : decode cX10_store 29 = .ok (.irem, 1) := by decide +kernel
theorem dX10_store_30 : decode cX10_store 30 = .ok (.imul, 1) := by decide +kernel
theorem dX10_store_31 : decode cX10_store 31 = .ok (.iushr, 1) := by decide +kernel
theorem dX10_store_32 : decode cX10_store 32 = .ok (.i2b, 1) := by decide +kernel
theorem dX10_store_33 : decode cX10_store 33 = .ok (.bastore, 1) := by decide +kernel
theorem dX10_store_34 : decode cX10_store 34 = .ok (.iinc 4 1, 3) := by decide +kernel
theorem dX10_store_37 : decode cX10_store 37 = .ok (.goto (-34), 3) := by decide +kernel
theorem dX10_store_40 : decode cX10_store 40 = .ok (.return_, 1) := by decide +kernel
abbrev cX10_say : ByteArray := prog_15_method_36_code
def yX10_say : MethodName := ⟨RX10, "say", "([BII)V"⟩
theorem dX10_say_0 : decode cX10_say 0 = .ok (.iconst 0, 1) := by decide +kernel
theorem dX10_say_1 : decode cX10_say 1 = .ok (.istore 4, 2) := by decide +kernel
theorem dX10_say_3 : decode cX10_say 3 = .ok (.iload 4, 2) := by decide +kernel
theorem dX10_say_5 : decode cX10_say 5 = .ok (.iload_n 3, 1) := by decide +kernel
theorem dX10_say_6 : decode cX10_say 6 = .ok (.if_icmp .ge 19, 3) := by decide +kernel
theorem dX10_say_9 : decode cX10_say 9 = .ok (.aload_n 0, 1) := by decide +kernel
theorem dX10_say_10 : decode cX10_say 10 = .ok (.aload_n 1, 1) := by decide +kernel
theorem dX10_say_11 : decode cX10_say 11 = .ok (.iload_n 2, 1) := by decide +kernel
theorem dX10_say_12 : decode cX10_say 12 = .ok (.iload 4, 2) := by decide +kernel
theorem dX10_say_14 : decode cX10_say 14 = .ok (.iadd, 1) := by decide +kernel
theorem dX10_say_15 : decode cX10_say 15 = .ok (.baload, 1) := by decide +kernel
theorem dX10_say_16 : decode cX10_say 16 = .ok (.invokevirtual 246, 3) := by decide +kernel
theorem dX10_say_19 : decode cX10_say 19 = .ok (.iinc 4 1, 3) := by decide +kernel
theorem dX10_say_22 : decode cX10_say 22 = .ok (.goto (-19), 3) := by decide +kernel
theorem dX10_say_25 : decode cX10_say 25 = .ok (.return_, 1) := by decide +kernel
abbrev cX10_say_2 : ByteArray := prog_15_method_35_code
def yX10_say_2 : MethodName := ⟨RX10, "say", "(I)V"⟩
theorem dX10_say_2_0 : decode cX10_say_2 0 = .ok (.aload_n 0, 1) := by decide +kernel
theorem dX10_say_2_1 : decode cX10_say_2 1 = .ok (.getfield 239, 3) := by decide +kernel
theorem dX10_say_2_4 : decode cX10_say_2 4 = .ok (.aload_n 0, 1) := by decide +kernel
theorem dX10_say_2_5 : decode cX10_say_2 5 = .ok (.getfield 243, 3) := by decide +kernel
theorem dX10_say_2_8 : decode cX10_say_2 8 = .ok (.iload_n 1, 1) := by decide +kernel
theorem dX10_say_2_9 : decode cX10_say_2 9 = .ok (.i2b, 1) := by decide +kernel
theorem dX10_say_2_10 : decode cX10_say_2 10 = .ok (.bastore, 1) := by decide +kernel
theorem dX10_say_2_11 : decode cX10_say_2 11 = .ok (.aload_n 0, 1) := by decide +kernel
theorem dX10_say_2_12 : decode cX10_say_2 12 = .ok (.dup, 1) := by decide +kernel
theorem dX10_say_2_13 : decode cX10_say_2 13 = .ok (.getfield 243, 3) := by decide +kernel
theorem dX10_say_2_16 : decode cX10_say_2 16 = .ok (.iconst 1, 1) := by decide +kernel
theorem dX10_say_2_17 : decode cX10_say_2 17 = .ok (.iadd, 1) := by decide +kernel
theorem dX10_say_2_18 : decode cX10_say_2 18 = .ok (.putfield 243, 3) := by decide +kernel
theorem dX10_say_2_21 : decode cX10_say_2 21 = .ok (.return_, 1) := by decide +kernel
abbrev cX10_both : ByteArray := prog_15_method_37_code
def yX10_both : MethodName := ⟨RX10, "both", "(I)V"⟩
theorem dX10_both_0 : decode cX10_both 0 = .ok (.aload_n 0, 1) := by decide +kernel
theorem dX10_both_1 : decode cX10_both 1 = .ok (.iload_n 1, 1) := by decide +kernel
theorem dX10_both_2 : decode cX10_both 2 = .ok (.bipush 8, 2) := by decide +kernel
theorem dX10_both_4 : decode cX10_both 4 = .ok (.ishr, 1) := by decide +kernel
theorem dX10_both_5 : decode cX10_both 5 = .ok (.invokevirtual 246, 3) := by decide +kernel
theorem dX10_both_8 : decode cX10_both 8 = .ok (.aload_n 0, 1) := by decide +kernel
theorem dX10_both_9 : decode cX10_both 9 = .ok (.iload_n 1, 1) := by decide +kernel
theorem dX10_both_10 : decode cX10_both 10 = .ok (.invokevirtual 246, 3) := by decide +kernel
theorem dX10_both_13 : decode cX10_both 13 = .ok (.return_, 1) := by decide +kernel
abbrev cX10_h2 : ByteArray := prog_15_method_43_code
def yX10_h2 : MethodName := ⟨RX10, "h2", "()V"⟩
theorem dX10_h2_0 : decode cX10_h2 0 = .ok (.aload_n 0, 1) := by decide +kernel
theorem dX10_h2_1 : decode cX10_h2 1 = .ok (.bipush 64, 2) := by decide +kernel
theorem dX10_h2_3 : decode cX10_h2 3 = .ok (.bipush 8, 2) := by decide +kernel
theorem dX10_h2_5 : decode cX10_h2 5 = .ok (.invokevirtual 270, 3) := by decide +kernel
theorem dX10_h2_8 : decode cX10_h2 8 = .ok (.iconst 0, 1) := by decide +kernel
theorem dX10_h2_9 : decode cX10_h2 9 = .ok (.istore_n 1, 1) := by decide +kernel
theorem dX10_h2_10 : decode cX10_h2 10 = .ok (.iload_n 1, 1) := by decide +kernel
theorem dX10_h2_11 : decode cX10_h2 11 = .ok (.bipush 8, 2) := by decide +kernel
theorem dX10_h2_13 : decode cX10_h2 13 = .ok (.if_icmp .ge 20, 3) := by decide +kernel
theorem dX10_h2_16 : decode cX10_h2 16 = .ok (.aload_n 0, 1) := by decide +kernel
theorem dX10_h2_17 : decode cX10_h2 17 = .ok (.getfield 274, 3) := by decide +kernel
theorem dX10_h2_20 : decode cX10_h2 20 = .ok (.iload_n 1, 1) := by decide +kernel
theorem dX10_h2_21 : decode cX10_h2 21 = .ok (.getstatic 277, 3) := by decide +kernel
theorem dX10_h2_24 : decode cX10_h2 24 = .ok (.iload_n 1, 1) := by decide +kernel
theorem dX10_h2_25 : decode cX10_h2 25 = .ok (.iaload, 1) := by decide +kernel
theorem dX10_h2_26 : decode cX10_h2 26 = .ok (.iastore, 1) := by decide +kernel
theorem dX10_h2_27 : decode cX10_h2 27 = .ok (.iinc 1 1, 3) := by decide +kernel
theorem dX10_h2_30 : decode cX10_h2 30 = .ok (.goto (-20), 3) := by decide +kernel
theorem dX10_h2_33 : decode cX10_h2 33 = .ok (.iconst 0, 1) := by decide +kernel
theorem dX10_h2_34 : decode cX10_h2 34 = .ok (.istore_n 1, 1) := by decide +kernel
theorem dX10_h2_35 : decode cX10_h2 35 = .ok (.iload_n 1, 1) := by decide +kernel
theorem dX10_h2_36 : decode cX10_h2 36 = .ok (.aload_n 0, 1) := by decide +kernel
theorem dX10_h2_37 : decode cX10_h2 37 = .ok (.getfield 243, 3) := by decide +kernel
theorem dX10_h2_40 : decode cX10_h2 40 = .ok (.if_icmp .ge 14, 3) := by decide +kernel
theorem dX10_h2_43 : decode cX10_h2 43 = .ok (.aload_n 0, 1) := by decide +kernel
theorem dX10_h2_44 : decode cX10_h2 44 = .ok (.iload_n 1, 1) := by decide +kernel
theorem dX10_h2_45 : decode cX10_h2 45 = .ok (.invokevirtual 280, 3) := by decide +kernel
theorem dX10_h2_48 : decode cX10_h2 48 = .ok (.iinc 1 64, 3) := by decide +kernel
theorem dX10_h2_51 : decode cX10_h2 51 = .ok (.goto (-16), 3) := by decide +kernel
theorem dX10_h2_54 : decode cX10_h2 54 = .ok (.iconst 0, 1) := by decide +kernel
theorem dX10_h2_55 : decode cX10_h2 55 = .ok (.istore_n 1, 1) := by decide +kernel
theorem dX10_h2_56 : decode cX10_h2 56 = .ok (.iload_n 1, 1) := by decide +kernel
theorem dX10_h2_57 : decode cX10_h2 57 = .ok (.bipush 32, 2) := by decide +kernel
theorem dX10_h2_59 : decode cX10_h2 59 = .ok (.if_icmp .ge 34, 3) := by decide +kernel
theorem dX10_h2_62 : decode cX10_h2 62 = .ok (.aload_n 0, 1) := by decide +kernel
theorem dX10_h2_63 : decode cX10_h2 63 = .ok (.getfield 283, 3) := by decide +kernel
theorem dX10_h2_66 : decode cX10_h2 66 = .ok (.iload_n 1, 1) := by decide +kernel
theorem dX10_h2_67 : decode cX10_h2 67 = .ok (.aload_n 0, 1) := by decide +kernel
theorem dX10_h2_68 : decode cX10_h2 68 = .ok (.getfield 274, 3) := by decide +kernel
theorem dX10_h2_71 : decode cX10_h2 71 = .ok (.iload_n 1, 1) := by decide +kernel
theorem dX10_h2_72 : decode cX10_h2 72 = .ok (.iconst 4, 1) := by decide +kernel
theorem dX10_h2_73 : decode cX10_h2 73 = .ok (.idiv, 1) := by decide +kernel
theorem dX10_h2_74 : decode cX10_h2 74 = .ok (.iaload, 1) := by decide +kernel
theorem dX10_h2_75 : decode cX10_h2 75 = .ok (.bipush 24, 2) := by decide +kernel
theorem dX10_h2_77 : decode cX10_h2 77 = .ok (.bipush 8, 2) := by decide +kernel
theorem dX10_h2_79 : decode cX10_h2 79 = .ok (.iload_n 1, 1) := by decide +kernel
theorem dX10_h2_80 : decode cX10_h2 80 = .ok (.iconst 4, 1) := by decide +kernel
theorem dX10_h2_81 : decode cX10_h2 81 = .ok (.irem, 1) := by decide +kernel
theorem dX10_h2_82 : decode cX10_h2 82 = .ok (.imul, 1) := by decide +kernel
theorem dX10_h2_83 : decode cX10_h2 83 = .ok (.isub, 1) := by decide +kernel
theorem dX10_h2_84 : decode cX10_h2 84 = .ok (.ishr, 1) := by decide +kernel
theorem dX10_h2_85 : decode cX10_h2 85 = .ok (.i2b, 1) := by decide +kernel
theorem dX10_h2_86 : decode cX10_h2 86 = .ok (.bastore, 1) := by decide +kernel
theorem dX10_h2_87 : decode cX10_h2 87 = .ok (.iinc 1 1, 3) := by decide +kernel
theorem dX10_h2_90 : decode cX10_h2 90 = .ok (.goto (-34), 3) := by decide +kernel
theorem dX10_h2_93 : decode cX10_h2 93 = .ok (.aload_n 0, 1) := by decide +kernel
theorem dX10_h2_94 : decode cX10_h2 94 = .ok (.iconst 0, 1) := by decide +kernel
theorem dX10_h2_95 : decode cX10_h2 95 = .ok (.putfield 243, 3) := by decide +kernel
theorem dX10_h2_98 : decode cX10_h2 98 = .ok (.return_, 1) := by decide +kernel
abbrev cX10_pads : ByteArray := prog_15_method_40_code
def yX10_pads : MethodName := ⟨RX10, "pads", "(II)V"⟩
theorem dX10_pads_0 : decode cX10_pads 0 = .ok (.ldc2_w 268, 3) := by decide +kernel
theorem dX10_pads_3 : decode cX10_pads 3 = .ok (.aload_n 0, 1) := by decide +kernel
theorem dX10_pads_4 : decode cX10_pads 4 = .ok (.getfield 243, 3) := by decide +kernel
theorem dX10_pads_7 : decode cX10_pads 7 = .ok (.i2l, 1) := by decide +kernel
theorem dX10_pads_8 : decode cX10_pads 8 = .ok (.lmul, 1) := by decide +kernel
theorem dX10_pads_9 : decode cX10_pads 9 = .ok (.lstore_n 3, 1) := by decide +kernel
theorem dX10_pads_10 : decode cX10_pads 10 = .ok (.aload_n 0, 1) := by decide +kernel
theorem dX10_pads_11 : decode cX10_pads 11 = .ok (.sipush 128, 3) := by decide +kernel
theorem dX10_pads_14 : decode cX10_pads 14 = .ok (.invokevirtual 246, 3) := by decide +kernel
theorem dX10_pads_17 : decode cX10_pads 17 = .ok (.aload_n 0, 1) := by decide +kernel
theorem dX10_pads_18 : decode cX10_pads 18 = .ok (.getfield 243, 3) := by decide +kernel
theorem dX10_pads_21 : decode cX10_pads 21 = .ok (.iload_n 1, 1) := by decide +kernel
theorem dX10_pads_22 : decode cX10_pads 22 = .ok (.irem, 1) := by decide +kernel
theorem dX10_pads_23 : decode cX10_pads 23 = .ok (.iload_n 1, 1) := by decide +kernel
theorem dX10_pads_24 : decode cX10_pads 24 = .ok (.iload_n 2, 1) := by decide +kernel
theorem dX10_pads_25 : decode cX10_pads 25 = .ok (.isub, 1) := by decide +kernel
theorem dX10_pads_26 : decode cX10_pads 26 = .ok (.if_icmp .eq 11, 3) := by decide +kernel
theorem dX10_pads_29 : decode cX10_pads 29 = .ok (.aload_n 0, 1) := by decide +kernel
theorem dX10_pads_30 : decode cX10_pads 30 = .ok (.iconst 0, 1) := by decide +kernel
theorem dX10_pads_31 : decode cX10_pads 31 = .ok (.invokevirtual 246, 3) := by decide +kernel
theorem dX10_pads_34 : decode cX10_pads 34 = .ok (.goto (-17), 3) := by decide +kernel
theorem dX10_pads_37 : decode cX10_pads 37 = .ok (.iload_n 2, 1) := by decide +kernel
theorem dX10_pads_38 : decode cX10_pads 38 = .ok (.iconst 1, 1) := by decide +kernel
theorem dX10_pads_39 : decode cX10_pads 39 = .ok (.isub, 1) := by decide +kernel
theorem dX10_pads_40 : decode cX10_pads 40 = .ok (.istore 5, 2) := by decide +kernel
theorem dX10_pads_42 : decode cX10_pads 42 = .ok (.iload 5, 2) := by decide +kernel
theorem dX10_pads_44 : decode cX10_pads 44 = .ok (.ifCond .lt 32, 3) := by decide +kernel
theorem dX10_pads_47 : decode cX10_pads 47 = .ok (.aload_n 0, 1) := by decide +kernel
theorem dX10_pads_48 : decode cX10_pads 48 = .ok (.iload 5, 2) := by decide +kernel
theorem dX10_pads_50 : decode cX10_pads 50 = .ok (.bipush 8, 2) := by decide +kernel
theorem dX10_pads_52 : decode cX10_pads 52 = .ok (.if_icmp .ge 14, 3) := by decide +kernel
theorem dX10_pads_55 : decode cX10_pads 55 = .ok (.lload_n 3, 1) := by decide +kernel
theorem dX10_pads_56 : decode cX10_pads 56 = .ok (.bipush 8, 2) := by decide +kernel
theorem dX10_pads_58 : decode cX10_pads 58 = .ok (.iload 5, 2) := by decide +kernel
theorem dX10_pads_60 : decode cX10_pads 60 = .ok (.imul, 1) := by decide +kernel
theorem dX10_pads_61 : decode cX10_pads 61 = .ok (.lushr, 1) := by decide +kernel
theorem dX10_pads_62 : decode cX10_pads 62 = .ok (.l2i, 1) := by decide +kernel
theorem dX10_pads_63 : decode cX10_pads 63 = .ok (.goto 4, 3) := by decide +kernel
theorem dX10_pads_66 : decode cX10_pads 66 = .ok (.iconst 0, 1) := by decide +kernel
theorem dX10_pads_67 : decode cX10_pads 67 = .ok (.invokevirtual 246, 3) := by decide +kernel
theorem dX10_pads_70 : decode cX10_pads 70 = .ok (.iinc 5 (-1), 3) := by decide +kernel
theorem dX10_pads_73 : decode cX10_pads 73 = .ok (.goto (-31), 3) := by decide +kernel
theorem dX10_pads_76 : decode cX10_pads 76 = .ok (.return_, 1) := by decide +kernel
abbrev cX10_block : ByteArray := prog_15_method_44_code
def yX10_block : MethodName := ⟨RX10, "block", "(I)V"⟩
theorem dX10_block_0 : decode cX10_block 0 = .ok (.iconst 0, 1) := by decide +kernel
theorem dX10_block_1 : decode cX10_block 1 = .ok (.istore_n 2, 1) := by decide +kernel
theorem dX10_block_2 : decode cX10_block 2 = .ok (.iload_n 2, 1) := by decide +kernel
theorem dX10_block_3 : decode cX10_block 3 = .ok (.bipush 64, 2) := by decide +kernel
theorem dX10_block_5 : decode cX10_block 5 = .ok (.if_icmp .ge 155, 3) := by decide +kernel
theorem dX10_block_8 : decode cX10_block 8 = .ok (.iload_n 2, 1) := by decide +kernel
theorem dX10_block_9 : decode cX10_block 9 = .ok (.bipush 16, 2) := by decide +kernel
theorem dX10_block_11 : decode cX10_block 11 = .ok (.if_icmp .ge 58, 3) := by decide +kernel
theorem dX10_block_14 : decode cX10_block 14 = .ok (.aload_n 0, 1) := by decide +kernel
theorem dX10_block_15 : decode cX10_block 15 = .ok (.getfield 286, 3) := by decide +kernel
theorem dX10_block_18 : decode cX10_block 18 = .ok (.iload_n 2, 1) := by decide +kernel
theorem dX10_block_19 : decode cX10_block 19 = .ok (.iconst 0, 1) := by decide +kernel
theorem dX10_block_20 : decode cX10_block 20 = .ok (.iastore, 1) := by decide +kernel
theorem dX10_block_21 : decode cX10_block 21 = .ok (.iconst 0, 1) := by decide +kernel
theorem dX10_block_22 : decode cX10_block 22 = .ok (.istore_n 3, 1) := by decide +kernel
theorem dX10_block_23 : decode cX10_block 23 = .ok (.iload_n 3, 1) := by decide +kernel
theorem dX10_block_24 : decode cX10_block 24 = .ok (.iconst 4, 1) := by decide +kernel
theorem dX10_block_25 : decode cX10_block 25 = .ok (.if_icmp .ge 41, 3) := by decide +kernel
theorem dX10_block_28 : decode cX10_block 28 = .ok (.aload_n 0, 1) := by decide +kernel
theorem dX10_block_29 : decode cX10_block 29 = .ok (.getfield 286, 3) := by decide +kernel
theorem dX10_block_32 : decode cX10_block 32 = .ok (.iload_n 2, 1) := by decide +kernel
theorem dX10_block_33 : decode cX10_block 33 = .ok (.aload_n 0, 1) := by decide +kernel
theorem dX10_block_34 : decode cX10_block 34 = .ok (.getfield 286, 3) := by decide +kernel
theorem dX10_block_37 : decode cX10_block 37 = .ok (.iload_n 2, 1) := by decide +kernel
theorem dX10_block_38 : decode cX10_block 38 = .ok (.iaload, 1) := by decide +kernel
theorem dX10_block_39 : decode cX10_block 39 = .ok (.bipush 8, 2) := by decide +kernel
theorem dX10_block_41 : decode cX10_block 41 = .ok (.ishl, 1) := by decide +kernel
theorem dX10_block_42 : decode cX10_block 42 = .ok (.aload_n 0, 1) := by decide +kernel
theorem dX10_block_43 : decode cX10_block 43 = .ok (.getfield 239, 3) := by decide +kernel
theorem dX10_block_46 : decode cX10_block 46 = .ok (.iload_n 1, 1) := by decide +kernel
theorem dX10_block_47 : decode cX10_block 47 = .ok (.iconst 4, 1) := by decide +kernel
theorem dX10_block_48 : decode cX10_block 48 = .ok (.iload_n 2, 1) := by decide +kernel
theorem dX10_block_49 : decode cX10_block 49 = .ok (.imul, 1) := by decide +kernel
theorem dX10_block_50 : decode cX10_block 50 = .ok (.iadd, 1) := by decide +kernel
theorem dX10_block_51 : decode cX10_block 51 = .ok (.iload_n 3, 1) := by decide +kernel
theorem dX10_block_52 : decode cX10_block 52 = .ok (.iadd, 1) := by decide +kernel
theorem dX10_block_53 : decode cX10_block 53 = .ok (.baload, 1) := by decide +kernel
theorem dX10_block_54 : decode cX10_block 54 = .ok (.sipush 255, 3) := by decide +kernel
theorem dX10_block_57 : decode cX10_block 57 = .ok (.iand, 1) := by decide +kernel
theorem dX10_block_58 : decode cX10_block 58 = .ok (.ior, 1) := by decide +kernel
theorem dX10_block_59 : decode cX10_block 59 = .ok (.iastore, 1) := by decide +kernel
theorem dX10_block_60 : decode cX10_block 60 = .ok (.iinc 3 1, 3) := by decide +kernel
theorem dX10_block_63 : decode cX10_block 63 = .ok (.goto (-40), 3) := by decide +kernel
theorem dX10_block_66 : decode cX10_block 66 = .ok (.goto 88, 3) := by decide +kernel
theorem dX10_block_69 : decode cX10_block 69 = .ok (.aload_n 0, 1) := by decide +kernel
theorem dX10_block_70 : decode cX10_block 70 = .ok (.getfield 286, 3) := by decide +kernel
theorem dX10_block_73 : decode cX10_block 73 = .ok (.iload_n 2, 1) := by decide +kernel
theorem dX10_block_74 : decode cX10_block 74 = .ok (.bipush 15, 2) := by decide +kernel
theorem dX10_block_76 : decode cX10_block 76 = .ok (.isub, 1) := by decide +kernel
theorem dX10_block_77 : decode cX10_block 77 = .ok (.iaload, 1) := by decide +kernel
theorem dX10_block_78 : decode cX10_block 78 = .ok (.istore_n 3, 1) := by decide +kernel
theorem dX10_block_79 : decode cX10_block 79 = .ok (.aload_n 0, 1) := by decide +kernel
theorem dX10_block_80 : decode cX10_block 80 = .ok (.getfield 286, 3) := by decide +kernel
theorem dX10_block_83 : decode cX10_block 83 = .ok (.iload_n 2, 1) := by decide +kernel
theorem dX10_block_84 : decode cX10_block 84 = .ok (.iconst 2, 1) := by decide +kernel
theorem dX10_block_85 : decode cX10_block 85 = .ok (.isub, 1) := by decide +kernel
theorem dX10_block_86 : decode cX10_block 86 = .ok (.iaload, 1) := by decide +kernel
theorem dX10_block_87 : decode cX10_block 87 = .ok (.istore 4, 2) := by decide +kernel
theorem dX10_block_89 : decode cX10_block 89 = .ok (.aload_n 0, 1) := by decide +kernel
theorem dX10_block_90 : decode cX10_block 90 = .ok (.getfield 286, 3) := by decide +kernel
theorem dX10_block_93 : decode cX10_block 93 = .ok (.iload_n 2, 1) := by decide +kernel
theorem dX10_block_94 : decode cX10_block 94 = .ok (.aload_n 0, 1) := by decide +kernel
theorem dX10_block_95 : decode cX10_block 95 = .ok (.getfield 286, 3) := by decide +kernel
theorem dX10_block_98 : decode cX10_block 98 = .ok (.iload_n 2, 1) := by decide +kernel
theorem dX10_block_99 : decode cX10_block 99 = .ok (.bipush 16, 2) := by decide +kernel
theorem dX10_block_101 : decode cX10_block 101 = .ok (.isub, 1) := by decide +kernel
theorem dX10_block_102 : decode cX10_block 102 = .ok (.iaload, 1) := by decide +kernel
theorem dX10_block_103 : decode cX10_block 103 = .ok (.aload_n 0, 1) := by decide +kernel
theorem dX10_block_104 : decode cX10_block 104 = .ok (.getfield 286, 3) := by decide +kernel
theorem dX10_block_107 : decode cX10_block 107 = .ok (.iload_n 2, 1) := by decide +kernel
theorem dX10_block_108 : decode cX10_block 108 = .ok (.bipush 7, 2) := by decide +kernel
theorem dX10_block_110 : decode cX10_block 110 = .ok (.isub, 1) := by decide +kernel
theorem dX10_block_111 : decode cX10_block 111 = .ok (.iaload, 1) := by decide +kernel
theorem dX10_block_112 : decode cX10_block 112 = .ok (.iadd, 1) := by decide +kernel
theorem dX10_block_113 : decode cX10_block 113 = .ok (.iload_n 3, 1) := by decide +kernel
theorem dX10_block_114 : decode cX10_block 114 = .ok (.bipush 7, 2) := by decide +kernel
theorem dX10_block_116 : decode cX10_block 116 = .ok (.invokestatic 289, 3) := by decide +kernel
theorem dX10_block_119 : decode cX10_block 119 = .ok (.iload_n 3, 1) := by decide +kernel
theorem dX10_block_120 : decode cX10_block 120 = .ok (.bipush 18, 2) := by decide +kernel
theorem dX10_block_122 : decode cX10_block 122 = .ok (.invokestatic 289, 3) := by decide +kernel
theorem dX10_block_125 : decode cX10_block 125 = .ok (.ixor, 1) := by decide +kernel
theorem dX10_block_126 : decode cX10_block 126 = .ok (.iload_n 3, 1) := by decide +kernel
theorem dX10_block_127 : decode cX10_block 127 = .ok (.iconst 3, 1) := by decide +kernel
theorem dX10_block_128 : decode cX10_block 128 = .ok (.iushr, 1) := by decide +kernel
theorem dX10_block_129 : decode cX10_block 129 = .ok (.ixor, 1) := by decide +kernel
theorem dX10_block_130 : decode cX10_block 130 = .ok (.iadd, 1) := by decide +kernel
theorem dX10_block_131 : decode cX10_block 131 = .ok (.iload 4, 2) := by decide +kernel
theorem dX10_block_133 : decode cX10_block 133 = .ok (.bipush 17, 2) := by decide +kernel
theorem dX10_block_135 : decode cX10_block 135 = .ok (.invokestatic 289, 3) := by decide +kernel
theorem dX10_block_138 : decode cX10_block 138 = .ok (.iload 4, 2) := by decide +kernel
theorem dX10_block_140 : decode cX10_block 140 = .ok (.bipush 19, 2) := by decide +kernel
theorem dX10_block_142 : decode cX10_block 142 = .ok (.invokestatic 289, 3) := by decide +kernel
theorem dX10_block_145 : decode cX10_block 145 = .ok (.ixor, 1) := by decide +kernel
theorem dX10_block_146 : decode cX10_block 146 = .ok (.iload 4, 2) := by decide +kernel
theorem dX10_block_148 : decode cX10_block 148 = .ok (.bipush 10, 2) := by decide +kernel
theorem dX10_block_150 : decode cX10_block 150 = .ok (.iushr, 1) := by decide +kernel
theorem dX10_block_151 : decode cX10_block 151 = .ok (.ixor, 1) := by decide +kernel
theorem dX10_block_152 : decode cX10_block 152 = .ok (.iadd, 1) := by decide +kernel
theorem dX10_block_153 : decode cX10_block 153 = .ok (.iastore, 1) := by decide +kernel
theorem dX10_block_154 : decode cX10_block 154 = .ok (.iinc 2 1, 3) := by decide +kernel
theorem dX10_block_157 : decode cX10_block 157 = .ok (.goto (-155), 3) := by decide +kernel
theorem dX10_block_160 : decode cX10_block 160 = .ok (.aload_n 0, 1) := by decide +kernel
theorem dX10_block_161 : decode cX10_block 161 = .ok (.getfield 274, 3) := by decide +kernel
theorem dX10_block_164 : decode cX10_block 164 = .ok (.iconst 0, 1) := by decide +kernel
theorem dX10_block_165 : decode cX10_block 165 = .ok (.iaload, 1) := by decide +kernel
theorem dX10_block_166 : decode cX10_block 166 = .ok (.istore_n 2, 1) := by decide +kernel
theorem dX10_block_167 : decode cX10_block 167 = .ok (.aload_n 0, 1) := by decide +kernel
theorem dX10_block_168 : decode cX10_block 168 = .ok (.getfield 274, 3) := by decide +kernel
theorem dX10_block_171 : decode cX10_block 171 = .ok (.iconst 1, 1) := by decide +kernel
theorem dX10_block_172 : decode cX10_block 172 = .ok (.iaload, 1) := by decide +kernel
theorem dX10_block_173 : decode cX10_block 173 = .ok (.istore_n 3, 1) := by decide +kernel
theorem dX10_block_174 : decode cX10_block 174 = .ok (.aload_n 0, 1) := by decide +kernel
theorem dX10_block_175 : decode cX10_block 175 = .ok (.getfield 274, 3) := by decide +kernel
theorem dX10_block_178 : decode cX10_block 178 = .ok (.iconst 2, 1) := by decide +kernel
theorem dX10_block_179 : decode cX10_block 179 = .ok (.iaload, 1) := by decide +kernel
theorem dX10_block_180 : decode cX10_block 180 = .ok (.istore 4, 2) := by decide +kernel
theorem dX10_block_182 : decode cX10_block 182 = .ok (.aload_n 0, 1) := by decide +kernel
theorem dX10_block_183 : decode cX10_block 183 = .ok (.getfield 274, 3) := by decide +kernel
theorem dX10_block_186 : decode cX10_block 186 = .ok (.iconst 3, 1) := by decide +kernel
theorem dX10_block_187 : decode cX10_block 187 = .ok (.iaload, 1) := by decide +kernel
theorem dX10_block_188 : decode cX10_block 188 = .ok (.istore 5, 2) := by decide +kernel
theorem dX10_block_190 : decode cX10_block 190 = .ok (.aload_n 0, 1) := by decide +kernel
theorem dX10_block_191 : decode cX10_block 191 = .ok (.getfield 274, 3) := by decide +kernel
theorem dX10_block_194 : decode cX10_block 194 = .ok (.iconst 4, 1) := by decide +kernel
theorem dX10_block_195 : decode cX10_block 195 = .ok (.iaload, 1) := by decide +kernel
theorem dX10_block_196 : decode cX10_block 196 = .ok (.istore 6, 2) := by decide +kernel
theorem dX10_block_198 : decode cX10_block 198 = .ok (.aload_n 0, 1) := by decide +kernel
theorem dX10_block_199 : decode cX10_block 199 = .ok (.getfield 274, 3) := by decide +kernel
theorem dX10_block_202 : decode cX10_block 202 = .ok (.iconst 5, 1) := by decide +kernel
theorem dX10_block_203 : decode cX10_block 203 = .ok (.iaload, 1) := by decide +kernel
theorem dX10_block_204 : decode cX10_block 204 = .ok (.istore 7, 2) := by decide +kernel
theorem dX10_block_206 : decode cX10_block 206 = .ok (.aload_n 0, 1) := by decide +kernel
theorem dX10_block_207 : decode cX10_block 207 = .ok (.getfield 274, 3) := by decide +kernel
theorem dX10_block_210 : decode cX10_block 210 = .ok (.bipush 6, 2) := by decide +kernel
theorem dX10_block_212 : decode cX10_block 212 = .ok (.iaload, 1) := by decide +kernel
theorem dX10_block_213 : decode cX10_block 213 = .ok (.istore 8, 2) := by decide +kernel
theorem dX10_block_215 : decode cX10_block 215 = .ok (.aload_n 0, 1) := by decide +kernel
theorem dX10_block_216 : decode cX10_block 216 = .ok (.getfield 274, 3) := by decide +kernel
theorem dX10_block_219 : decode cX10_block 219 = .ok (.bipush 7, 2) := by decide +kernel
theorem dX10_block_221 : decode cX10_block 221 = .ok (.iaload, 1) := by decide +kernel
theorem dX10_block_222 : decode cX10_block 222 = .ok (.istore 9, 2) := by decide +kernel
theorem dX10_block_224 : decode cX10_block 224 = .ok (.iconst 0, 1) := by decide +kernel
theorem dX10_block_225 : decode cX10_block 225 = .ok (.istore 10, 2) := by decide +kernel
theorem dX10_block_227 : decode cX10_block 227 = .ok (.iload 10, 2) := by decide +kernel
theorem dX10_block_229 : decode cX10_block 229 = .ok (.bipush 64, 2) := by decide +kernel
theorem dX10_block_231 : decode cX10_block 231 = .ok (.if_icmp .ge 135, 3) := by decide +kernel
theorem dX10_block_234 : decode cX10_block 234 = .ok (.iload 9, 2) := by decide +kernel
theorem dX10_block_236 : decode cX10_block 236 = .ok (.iload 6, 2) := by decide +kernel
theorem dX10_block_238 : decode cX10_block 238 = .ok (.bipush 6, 2) := by decide +kernel
theorem dX10_block_240 : decode cX10_block 240 = .ok (.invokestatic 289, 3) := by decide +kernel
theorem dX10_block_243 : decode cX10_block 243 = .ok (.iload 6, 2) := by decide +kernel
theorem dX10_block_245 : decode cX10_block 245 = .ok (.bipush 11, 2) := by decide +kernel
theorem dX10_block_247 : decode cX10_block 247 = .ok (.invokestatic 289, 3) := by decide +kernel
theorem dX10_block_250 : decode cX10_block 250 = .ok (.ixor, 1) := by decide +kernel
theorem dX10_block_251 : decode cX10_block 251 = .ok (.iload 6, 2) := by decide +kernel
theorem dX10_block_253 : decode cX10_block 253 = .ok (.bipush 25, 2) := by decide +kernel
theorem dX10_block_255 : decode cX10_block 255 = .ok (.invokestatic 289, 3) := by decide +kernel
theorem dX10_block_258 : decode cX10_block 258 = .ok (.ixor, 1) := by decide +kernel
theorem dX10_block_259 : decode cX10_block 259 = .ok (.iadd, 1) := by decide +kernel
theorem dX10_block_260 : decode cX10_block 260 = .ok (.iload 6, 2) := by decide +kernel
theorem dX10_block_262 : decode cX10_block 262 = .ok (.iload 7, 2) := by decide +kernel
theorem dX10_block_264 : decode cX10_block 264 = .ok (.iand, 1) := by decide +kernel
theorem dX10_block_265 : decode cX10_block 265 = .ok (.iload 6, 2) := by decide +kernel
theorem dX10_block_267 : decode cX10_block 267 = .ok (.iconst (-1), 1) := by decide +kernel
theorem dX10_block_268 : decode cX10_block 268 = .ok (.ixor, 1) := by decide +kernel
theorem dX10_block_269 : decode cX10_block 269 = .ok (.iload 8, 2) := by decide +kernel
theorem dX10_block_271 : decode cX10_block 271 = .ok (.iand, 1) := by decide +kernel
theorem dX10_block_272 : decode cX10_block 272 = .ok (.ixor, 1) := by decide +kernel
theorem dX10_block_273 : decode cX10_block 273 = .ok (.iadd, 1) := by decide +kernel
theorem dX10_block_274 : decode cX10_block 274 = .ok (.getstatic 293, 3) := by decide +kernel
theorem dX10_block_277 : decode cX10_block 277 = .ok (.iload 10, 2) := by decide +kernel
theorem dX10_block_279 : decode cX10_block 279 = .ok (.iaload, 1) := by decide +kernel
theorem dX10_block_280 : decode cX10_block 280 = .ok (.iadd, 1) := by decide +kernel
theorem dX10_block_281 : decode cX10_block 281 = .ok (.aload_n 0, 1) := by decide +kernel
theorem dX10_block_282 : decode cX10_block 282 = .ok (.getfield 286, 3) := by decide +kernel
theorem dX10_block_285 : decode cX10_block 285 = .ok (.iload 10, 2) := by decide +kernel
theorem dX10_block_287 : decode cX10_block 287 = .ok (.iaload, 1) := by decide +kernel
theorem dX10_block_288 : decode cX10_block 288 = .ok (.iadd, 1) := by decide +kernel
theorem dX10_block_289 : decode cX10_block 289 = .ok (.istore 11, 2) := by decide +kernel
theorem dX10_block_291 : decode cX10_block 291 = .ok (.iload_n 2, 1) := by decide +kernel
theorem dX10_block_292 : decode cX10_block 292 = .ok (.iconst 2, 1) := by decide +kernel
theorem dX10_block_293 : decode cX10_block 293 = .ok (.invokestatic 289, 3) := by decide +kernel
theorem dX10_block_296 : decode cX10_block 296 = .ok (.iload_n 2, 1) := by decide +kernel
theorem dX10_block_297 : decode cX10_block 297 = .ok (.bipush 13, 2) := by decide +kernel
theorem dX10_block_299 : decode cX10_block 299 = .ok (.invokestatic 289, 3) := by decide +kernel
theorem dX10_block_302 : decode cX10_block 302 = .ok (.ixor, 1) := by decide +kernel
theorem dX10_block_303 : decode cX10_block 303 = .ok (.iload_n 2, 1) := by decide +kernel
theorem dX10_block_304 : decode cX10_block 304 = .ok (.bipush 22, 2) := by decide +kernel
theorem dX10_block_306 : decode cX10_block 306 = .ok (.invokestatic 289, 3) := by decide +kernel
theorem dX10_block_309 : decode cX10_block 309 = .ok (.ixor, 1) := by decide +kernel
theorem dX10_block_310 : decode cX10_block 310 = .ok (.iload_n 2, 1) := by decide +kernel
theorem dX10_block_311 : decode cX10_block 311 = .ok (.iload_n 3, 1) := by decide +kernel
theorem dX10_block_312 : decode cX10_block 312 = .ok (.iand, 1) := by decide +kernel
theorem dX10_block_313 : decode cX10_block 313 = .ok (.iload_n 2, 1) := by decide +kernel
theorem dX10_block_314 : decode cX10_block 314 = .ok (.iload 4, 2) := by decide +kernel
theorem dX10_block_316 : decode cX10_block 316 = .ok (.iand, 1) := by decide +kernel
theorem dX10_block_317 : decode cX10_block 317 = .ok (.ixor, 1) := by decide +kernel
theorem dX10_block_318 : decode cX10_block 318 = .ok (.iload_n 3, 1) := by decide +kernel
theorem dX10_block_319 : decode cX10_block 319 = .ok (.iload 4, 2) := by decide +kernel
theorem dX10_block_321 : decode cX10_block 321 = .ok (.iand, 1) := by decide +kernel
theorem dX10_block_322 : decode cX10_block 322 = .ok (.ixor, 1) := by decide +kernel
theorem dX10_block_323 : decode cX10_block 323 = .ok (.iadd, 1) := by decide +kernel
theorem dX10_block_324 : decode cX10_block 324 = .ok (.istore 12, 2) := by decide +kernel
theorem dX10_block_326 : decode cX10_block 326 = .ok (.iload 8, 2) := by decide +kernel
theorem dX10_block_328 : decode cX10_block 328 = .ok (.istore 9, 2) := by decide +kernel
theorem dX10_block_330 : decode cX10_block 330 = .ok (.iload 7, 2) := by decide +kernel
theorem dX10_block_332 : decode cX10_block 332 = .ok (.istore 8, 2) := by decide +kernel
theorem dX10_block_334 : decode cX10_block 334 = .ok (.iload 6, 2) := by decide +kernel
theorem dX10_block_336 : decode cX10_block 336 = .ok (.istore 7, 2) := by decide +kernel
theorem dX10_block_338 : decode cX10_block 338 = .ok (.iload 5, 2) := by decide +kernel
theorem dX10_block_340 : decode cX10_block 340 = .ok (.iload 11, 2) := by decide +kernel
theorem dX10_block_342 : decode cX10_block 342 = .ok (.iadd, 1) := by decide +kernel
theorem dX10_block_343 : decode cX10_block 343 = .ok (.istore 6, 2) := by decide +kernel
theorem dX10_block_345 : decode cX10_block 345 = .ok (.iload 4, 2) := by decide +kernel
theorem dX10_block_347 : decode cX10_block 347 = .ok (.istore 5, 2) := by decide +kernel
theorem dX10_block_349 : decode cX10_block 349 = .ok (.iload_n 3, 1) := by decide +kernel
theorem dX10_block_350 : decode cX10_block 350 = .ok (.istore 4, 2) := by decide +kernel
theorem dX10_block_352 : decode cX10_block 352 = .ok (.iload_n 2, 1) := by decide +kernel
theorem dX10_block_353 : decode cX10_block 353 = .ok (.istore_n 3, 1) := by decide +kernel
theorem dX10_block_354 : decode cX10_block 354 = .ok (.iload 11, 2) := by decide +kernel
theorem dX10_block_356 : decode cX10_block 356 = .ok (.iload 12, 2) := by decide +kernel
theorem dX10_block_358 : decode cX10_block 358 = .ok (.iadd, 1) := by decide +kernel
theorem dX10_block_359 : decode cX10_block 359 = .ok (.istore_n 2, 1) := by decide +kernel
theorem dX10_block_360 : decode cX10_block 360 = .ok (.iinc 10 1, 3) := by decide +kernel
theorem dX10_block_363 : decode cX10_block 363 = .ok (.goto (-136), 3) := by decide +kernel
theorem dX10_block_366 : decode cX10_block 366 = .ok (.aload_n 0, 1) := by decide +kernel
theorem dX10_block_367 : decode cX10_block 367 = .ok (.getfield 274, 3) := by decide +kernel
theorem dX10_block_370 : decode cX10_block 370 = .ok (.iconst 0, 1) := by decide +kernel
theorem dX10_block_371 : decode cX10_block 371 = .ok (.dup2, 1) := by decide +kernel
theorem dX10_block_372 : decode cX10_block 372 = .ok (.iaload, 1) := by decide +kernel
theorem dX10_block_373 : decode cX10_block 373 = .ok (.iload_n 2, 1) := by decide +kernel
theorem dX10_block_374 : decode cX10_block 374 = .ok (.iadd, 1) := by decide +kernel
theorem dX10_block_375 : decode cX10_block 375 = .ok (.iastore, 1) := by decide +kernel
theorem dX10_block_376 : decode cX10_block 376 = .ok (.aload_n 0, 1) := by decide +kernel
theorem dX10_block_377 : decode cX10_block 377 = .ok (.getfield 274, 3) := by decide +kernel
theorem dX10_block_380 : decode cX10_block 380 = .ok (.iconst 1, 1) := by decide +kernel
theorem dX10_block_381 : decode cX10_block 381 = .ok (.dup2, 1) := by decide +kernel
theorem dX10_block_382 : decode cX10_block 382 = .ok (.iaload, 1) := by decide +kernel
theorem dX10_block_383 : decode cX10_block 383 = .ok (.iload_n 3, 1) := by decide +kernel
theorem dX10_block_384 : decode cX10_block 384 = .ok (.iadd, 1) := by decide +kernel
theorem dX10_block_385 : decode cX10_block 385 = .ok (.iastore, 1) := by decide +kernel
theorem dX10_block_386 : decode cX10_block 386 = .ok (.aload_n 0, 1) := by decide +kernel
theorem dX10_block_387 : decode cX10_block 387 = .ok (.getfield 274, 3) := by decide +kernel
theorem dX10_block_390 : decode cX10_block 390 = .ok (.iconst 2, 1) := by decide +kernel
theorem dX10_block_391 : decode cX10_block 391 = .ok (.dup2, 1) := by decide +kernel
theorem dX10_block_392 : decode cX10_block 392 = .ok (.iaload, 1) := by decide +kernel
theorem dX10_block_393 : decode cX10_block 393 = .ok (.iload 4, 2) := by decide +kernel
theorem dX10_block_395 : decode cX10_block 395 = .ok (.iadd, 1) := by decide +kernel
theorem dX10_block_396 : decode cX10_block 396 = .ok (.iastore, 1) := by decide +kernel
theorem dX10_block_397 : decode cX10_block 397 = .ok (.aload_n 0, 1) := by decide +kernel
theorem dX10_block_398 : decode cX10_block 398 = .ok (.getfield 274, 3) := by decide +kernel
theorem dX10_block_401 : decode cX10_block 401 = .ok (.iconst 3, 1) := by decide +kernel
theorem dX10_block_402 : decode cX10_block 402 = .ok (.dup2, 1) := by decide +kernel
theorem dX10_block_403 : decode cX10_block 403 = .ok (.iaload, 1) := by decide +kernel
theorem dX10_block_404 : decode cX10_block 404 = .ok (.iload 5, 2) := by decide +kernel
theorem dX10_block_406 : decode cX10_block 406 = .ok (.iadd, 1) := by decide +kernel
theorem dX10_block_407 : decode cX10_block 407 = .ok (.iastore, 1) := by decide +kernel
theorem dX10_block_408 : decode cX10_block 408 = .ok (.aload_n 0, 1) := by decide +kernel
theorem dX10_block_409 : decode cX10_block 409 = .ok (.getfield 274, 3) := by decide +kernel
theorem dX10_block_412 : decode cX10_block 412 = .ok (.iconst 4, 1) := by decide +kernel
theorem dX10_block_413 : decode cX10_block 413 = .ok (.dup2, 1) := by decide +kernel
theorem dX10_block_414 : decode cX10_block 414 = .ok (.iaload, 1) := by decide +kernel
theorem dX10_block_415 : decode cX10_block 415 = .ok (.iload 6, 2) := by decide +kernel
theorem dX10_block_417 : decode cX10_block 417 = .ok (.iadd, 1) := by decide +kernel
theorem dX10_block_418 : decode cX10_block 418 = .ok (.iastore, 1) := by decide +kernel
theorem dX10_block_419 : decode cX10_block 419 = .ok (.aload_n 0, 1) := by decide +kernel
theorem dX10_block_420 : decode cX10_block 420 = .ok (.getfield 274, 3) := by decide +kernel
theorem dX10_block_423 : decode cX10_block 423 = .ok (.iconst 5, 1) := by decide +kernel
theorem dX10_block_424 : decode cX10_block 424 = .ok (.dup2, 1) := by decide +kernel
theorem dX10_block_425 : decode cX10_block 425 = .ok (.iaload, 1) := by decide +kernel
theorem dX10_block_426 : decode cX10_block 426 = .ok (.iload 7, 2) := by decide +kernel
theorem dX10_block_428 : decode cX10_block 428 = .ok (.iadd, 1) := by decide +kernel
theorem dX10_block_429 : decode cX10_block 429 = .ok (.iastore, 1) := by decide +kernel
theorem dX10_block_430 : decode cX10_block 430 = .ok (.aload_n 0, 1) := by decide +kernel
theorem dX10_block_431 : decode cX10_block 431 = .ok (.getfield 274, 3) := by decide +kernel
theorem dX10_block_434 : decode cX10_block 434 = .ok (.bipush 6, 2) := by decide +kernel
theorem dX10_block_436 : decode cX10_block 436 = .ok (.dup2, 1) := by decide +kernel
theorem dX10_block_437 : decode cX10_block 437 = .ok (.iaload, 1) := by decide +kernel
theorem dX10_block_438 : decode cX10_block 438 = .ok (.iload 8, 2) := by decide +kernel
theorem dX10_block_440 : decode cX10_block 440 = .ok (.iadd, 1) := by decide +kernel
theorem dX10_block_441 : decode cX10_block 441 = .ok (.iastore, 1) := by decide +kernel
theorem dX10_block_442 : decode cX10_block 442 = .ok (.aload_n 0, 1) := by decide +kernel
theorem dX10_block_443 : decode cX10_block 443 = .ok (.getfield 274, 3) := by decide +kernel
theorem dX10_block_446 : decode cX10_block 446 = .ok (.bipush 7, 2) := by decide +kernel
theorem dX10_block_448 : decode cX10_block 448 = .ok (.dup2, 1) := by decide +kernel
theorem dX10_block_449 : decode cX10_block 449 = .ok (.iaload, 1) := by decide +kernel
theorem dX10_block_450 : decode cX10_block 450 = .ok (.iload 9, 2) := by decide +kernel
theorem dX10_block_452 : decode cX10_block 452 = .ok (.iadd, 1) := by decide +kernel
theorem dX10_block_453 : decode cX10_block 453 = .ok (.iastore, 1) := by decide +kernel
theorem dX10_block_454 : decode cX10_block 454 = .ok (.return_, 1) := by decide +kernel
abbrev cX10_roll : ByteArray := prog_15_method_41_code
def yX10_roll : MethodName := ⟨RX10, "roll", "(II)I"⟩
theorem dX10_roll_0 : decode cX10_roll 0 = .ok (.iload_n 0, 1) := by decide +kernel
theorem dX10_roll_1 : decode cX10_roll 1 = .ok (.iload_n 1, 1) := by decide +kernel
theorem dX10_roll_2 : decode cX10_roll 2 = .ok (.iushr, 1) := by decide +kernel
theorem dX10_roll_3 : decode cX10_roll 3 = .ok (.iload_n 0, 1) := by decide +kernel
theorem dX10_roll_4 : decode cX10_roll 4 = .ok (.bipush 32, 2) := by decide +kernel
theorem dX10_roll_6 : decode cX10_roll 6 = .ok (.iload_n 1, 1) := by decide +kernel
theorem dX10_roll_7 : decode cX10_roll 7 = .ok (.isub, 1) := by decide +kernel
theorem dX10_roll_8 : decode cX10_roll 8 = .ok (.ishl, 1) := by decide +kernel
theorem dX10_roll_9 : decode cX10_roll 9 = .ok (.ior, 1) := by decide +kernel
theorem dX10_roll_10 : decode cX10_roll 10 = .ok (.ireturn, 1) := by decide +kernel
abbrev cX10_keyTwo : ByteArray := prog_15_method_79_code
def yX10_keyTwo : MethodName := ⟨RX10, "keyTwo", "(I)I"⟩
theorem dX10_keyTwo_0 : decode cX10_keyTwo 0 = .ok (.iload_n 1, 1) := by decide +kernel
theorem dX10_keyTwo_1 : decode cX10_keyTwo 1 = .ok (.iconst 4, 1) := by decide +kernel
theorem dX10_keyTwo_2 : decode cX10_keyTwo 2 = .ok (.isub, 1) := by decide +kernel
theorem dX10_keyTwo_3 : decode cX10_keyTwo 3 = .ok (.iconst 2, 1) := by decide +kernel
theorem dX10_keyTwo_4 : decode cX10_keyTwo 4 = .ok (.idiv, 1) := by decide +kernel
theorem dX10_keyTwo_5 : decode cX10_keyTwo 5 = .ok (.istore_n 2, 1) := by decide +kernel
theorem dX10_keyTwo_6 : decode cX10_keyTwo 6 = .ok (.iload_n 1, 1) := by decide +kernel
theorem dX10_keyTwo_7 : decode cX10_keyTwo 7 = .ok (.iconst 2, 1) := by decide +kernel
theorem dX10_keyTwo_8 : decode cX10_keyTwo 8 = .ok (.irem, 1) := by decide +kernel
theorem dX10_keyTwo_9 : decode cX10_keyTwo 9 = .ok (.ifCond .ne 16, 3) := by decide +kernel
theorem dX10_keyTwo_12 : decode cX10_keyTwo 12 = .ok (.iload_n 2, 1) := by decide +kernel
theorem dX10_keyTwo_13 : decode cX10_keyTwo 13 = .ok (.bipush 66, 2) := by decide +kernel
theorem dX10_keyTwo_15 : decode cX10_keyTwo 15 = .ok (.if_icmp .lt 10, 3) := by decide +kernel
theorem dX10_keyTwo_18 : decode cX10_keyTwo 18 = .ok (.iload_n 2, 1) := by decide +kernel
theorem dX10_keyTwo_19 : decode cX10_keyTwo 19 = .ok (.sipush 256, 3) := by decide +kernel
theorem dX10_keyTwo_22 : decode cX10_keyTwo 22 = .ok (.if_icmp .le 6, 3) := by decide +kernel
theorem dX10_keyTwo_25 : decode cX10_keyTwo 25 = .ok (.bipush (-2), 2) := by decide +kernel
theorem dX10_keyTwo_27 : decode cX10_keyTwo 27 = .ok (.ireturn, 1) := by decide +kernel
theorem dX10_keyTwo_28 : decode cX10_keyTwo 28 = .ok (.aload_n 0, 1) := by decide +kernel
theorem dX10_keyTwo_29 : decode cX10_keyTwo 29 = .ok (.getfield 534, 3) := by decide +kernel
theorem dX10_keyTwo_32 : decode cX10_keyTwo 32 = .ok (.iload_n 2, 1) := by decide +kernel
theorem dX10_keyTwo_33 : decode cX10_keyTwo 33 = .ok (.baload, 1) := by decide +kernel
theorem dX10_keyTwo_34 : decode cX10_keyTwo 34 = .ok (.sipush 255, 3) := by decide +kernel
theorem dX10_keyTwo_37 : decode cX10_keyTwo 37 = .ok (.iand, 1) := by decide +kernel
theorem dX10_keyTwo_38 : decode cX10_keyTwo 38 = .ok (.bipush 16, 2) := by decide +kernel
theorem dX10_keyTwo_40 : decode cX10_keyTwo 40 = .ok (.ishl, 1) := by decide +kernel
theorem dX10_keyTwo_41 : decode cX10_keyTwo 41 = .ok (.aload_n 0, 1) := by decide +kernel
theorem dX10_keyTwo_42 : decode cX10_keyTwo 42 = .ok (.getfield 534, 3) := by decide +kernel
theorem dX10_keyTwo_45 : decode cX10_keyTwo 45 = .ok (.iload_n 2, 1) := by decide +kernel
theorem dX10_keyTwo_46 : decode cX10_keyTwo 46 = .ok (.iconst 1, 1) := by decide +kernel
theorem dX10_keyTwo_47 : decode cX10_keyTwo 47 = .ok (.iadd, 1) := by decide +kernel
theorem dX10_keyTwo_48 : decode cX10_keyTwo 48 = .ok (.baload, 1) := by decide +kernel
theorem dX10_keyTwo_49 : decode cX10_keyTwo 49 = .ok (.sipush 255, 3) := by decide +kernel
theorem dX10_keyTwo_52 : decode cX10_keyTwo 52 = .ok (.iand, 1) := by decide +kernel
theorem dX10_keyTwo_53 : decode cX10_keyTwo 53 = .ok (.bipush 8, 2) := by decide +kernel
theorem dX10_keyTwo_55 : decode cX10_keyTwo 55 = .ok (.ishl, 1) := by decide +kernel
theorem dX10_keyTwo_56 : decode cX10_keyTwo 56 = .ok (.ior, 1) := by decide +kernel
theorem dX10_keyTwo_57 : decode cX10_keyTwo 57 = .ok (.aload_n 0, 1) := by decide +kernel
theorem dX10_keyTwo_58 : decode cX10_keyTwo 58 = .ok (.getfield 534, 3) := by decide +kernel
theorem dX10_keyTwo_61 : decode cX10_keyTwo 61 = .ok (.iload_n 2, 1) := by decide +kernel
theorem dX10_keyTwo_62 : decode cX10_keyTwo 62 = .ok (.iconst 2, 1) := by decide +kernel
theorem dX10_keyTwo_63 : decode cX10_keyTwo 63 = .ok (.iadd, 1) := by decide +kernel
theorem dX10_keyTwo_64 : decode cX10_keyTwo 64 = .ok (.baload, 1) := by decide +kernel
theorem dX10_keyTwo_65 : decode cX10_keyTwo 65 = .ok (.sipush 255, 3) := by decide +kernel
theorem dX10_keyTwo_68 : decode cX10_keyTwo 68 = .ok (.iand, 1) := by decide +kernel
theorem dX10_keyTwo_69 : decode cX10_keyTwo 69 = .ok (.ior, 1) := by decide +kernel
theorem dX10_keyTwo_70 : decode cX10_keyTwo 70 = .ok (.istore_n 3, 1) := by decide +kernel
theorem dX10_keyTwo_71 : decode cX10_keyTwo 71 = .ok (.aload_n 0, 1) := by decide +kernel
theorem dX10_keyTwo_72 : decode cX10_keyTwo 72 = .ok (.getfield 534, 3) := by decide +kernel
theorem dX10_keyTwo_75 : decode cX10_keyTwo 75 = .ok (.iload_n 1, 1) := by decide +kernel
theorem dX10_keyTwo_76 : decode cX10_keyTwo 76 = .ok (.iconst 1, 1) := by decide +kernel
theorem dX10_keyTwo_77 : decode cX10_keyTwo 77 = .ok (.isub, 1) := by decide +kernel
theorem dX10_keyTwo_78 : decode cX10_keyTwo 78 = .ok (.baload, 1) := by decide +kernel
theorem dX10_keyTwo_79 : decode cX10_keyTwo 79 = .ok (.istore 4, 2) := by decide +kernel
theorem dX10_keyTwo_81 : decode cX10_keyTwo 81 = .ok (.aload_n 0, 1) := by decide +kernel
theorem dX10_keyTwo_82 : decode cX10_keyTwo 82 = .ok (.getfield 534, 3) := by decide +kernel
theorem dX10_keyTwo_85 : decode cX10_keyTwo 85 = .ok (.iconst 0, 1) := by decide +kernel
theorem dX10_keyTwo_86 : decode cX10_keyTwo 86 = .ok (.baload, 1) := by decide +kernel
theorem dX10_keyTwo_87 : decode cX10_keyTwo 87 = .ok (.ifCond .eq 34, 3) := by decide +kernel
theorem dX10_keyTwo_90 : decode cX10_keyTwo 90 = .ok (.aload_n 0, 1) := by decide +kernel
theorem dX10_keyTwo_91 : decode cX10_keyTwo 91 = .ok (.getfield 534, 3) := by decide +kernel
theorem dX10_keyTwo_94 : decode cX10_keyTwo 94 = .ok (.iload_n 2, 1) := by decide +kernel
theorem dX10_keyTwo_95 : decode cX10_keyTwo 95 = .ok (.iconst 1, 1) := by decide +kernel
theorem dX10_keyTwo_96 : decode cX10_keyTwo 96 = .ok (.isub, 1) := by decide +kernel
theorem dX10_keyTwo_97 : decode cX10_keyTwo 97 = .ok (.baload, 1) := by decide +kernel
theorem dX10_keyTwo_98 : decode cX10_keyTwo 98 = .ok (.iconst 1, 1) := by decide +kernel
theorem dX10_keyTwo_99 : decode cX10_keyTwo 99 = .ok (.iand, 1) := by decide +kernel
theorem dX10_keyTwo_100 : decode cX10_keyTwo 100 = .ok (.ifCond .eq 21, 3) := by decide +kernel
theorem dX10_keyTwo_103 : decode cX10_keyTwo 103 = .ok (.iload_n 3, 1) := by decide +kernel
theorem dX10_keyTwo_104 : decode cX10_keyTwo 104 = .ok (.iconst 1, 1) := by decide +kernel
theorem dX10_keyTwo_105 : decode cX10_keyTwo 105 = .ok (.iand, 1) := by decide +kernel
theorem dX10_keyTwo_106 : decode cX10_keyTwo 106 = .ok (.ifCond .eq 15, 3) := by decide +kernel
theorem dX10_keyTwo_109 : decode cX10_keyTwo 109 = .ok (.iload_n 3, 1) := by decide +kernel
theorem dX10_keyTwo_110 : decode cX10_keyTwo 110 = .ok (.iconst 3, 1) := by decide +kernel
theorem dX10_keyTwo_111 : decode cX10_keyTwo 111 = .ok (.if_icmp .lt 10, 3) := by decide +kernel
theorem dX10_keyTwo_114 : decode cX10_keyTwo 114 = .ok (.iload_n 3, 1) := by decide +kernel
theorem dX10_keyTwo_115 : decode cX10_keyTwo 115 = .ok (.ldc_w 635, 3) := by decide +kernel
theorem dX10_keyTwo_118 : decode cX10_keyTwo 118 = .ok (.if_icmp .le 6, 3) := by decide +kernel
theorem dX10_keyTwo_121 : decode cX10_keyTwo 121 = .ok (.bipush (-2), 2) := by decide +kernel
theorem dX10_keyTwo_123 : decode cX10_keyTwo 123 = .ok (.ireturn, 1) := by decide +kernel
theorem dX10_keyTwo_124 : decode cX10_keyTwo 124 = .ok (.iload 4, 2) := by decide +kernel
theorem dX10_keyTwo_126 : decode cX10_keyTwo 126 = .ok (.ifCond .eq 10, 3) := by decide +kernel
theorem dX10_keyTwo_129 : decode cX10_keyTwo 129 = .ok (.iload 4, 2) := by decide +kernel
theorem dX10_keyTwo_131 : decode cX10_keyTwo 131 = .ok (.bipush 48, 2) := by decide +kernel
theorem dX10_keyTwo_133 : decode cX10_keyTwo 133 = .ok (.if_icmp .ne 16, 3) := by decide +kernel
theorem dX10_keyTwo_136 : decode cX10_keyTwo 136 = .ok (.iload 4, 2) := by decide +kernel
theorem dX10_keyTwo_138 : decode cX10_keyTwo 138 = .ok (.bipush 48, 2) := by decide +kernel
theorem dX10_keyTwo_140 : decode cX10_keyTwo 140 = .ok (.if_icmp .ne 12, 3) := by decide +kernel
theorem dX10_keyTwo_143 : decode cX10_keyTwo 143 = .ok (.iload_n 2, 1) := by decide +kernel
theorem dX10_keyTwo_144 : decode cX10_keyTwo 144 = .ok (.bipush 100, 2) := by decide +kernel
theorem dX10_keyTwo_146 : decode cX10_keyTwo 146 = .ok (.if_icmp .ge 6, 3) := by decide +kernel
theorem dX10_keyTwo_149 : decode cX10_keyTwo 149 = .ok (.bipush (-2), 2) := by decide +kernel
theorem dX10_keyTwo_151 : decode cX10_keyTwo 151 = .ok (.ireturn, 1) := by decide +kernel
theorem dX10_keyTwo_152 : decode cX10_keyTwo 152 = .ok (.iload_n 2, 1) := by decide +kernel
theorem dX10_keyTwo_153 : decode cX10_keyTwo 153 = .ok (.iconst 3, 1) := by decide +kernel
theorem dX10_keyTwo_154 : decode cX10_keyTwo 154 = .ok (.iadd, 1) := by decide +kernel
theorem dX10_keyTwo_155 : decode cX10_keyTwo 155 = .ok (.iconst 4, 1) := by decide +kernel
theorem dX10_keyTwo_156 : decode cX10_keyTwo 156 = .ok (.idiv, 1) := by decide +kernel
theorem dX10_keyTwo_157 : decode cX10_keyTwo 157 = .ok (.istore 5, 2) := by decide +kernel
theorem dX10_keyTwo_159 : decode cX10_keyTwo 159 = .ok (.aload_n 0, 1) := by decide +kernel
theorem dX10_keyTwo_160 : decode cX10_keyTwo 160 = .ok (.getfield 534, 3) := by decide +kernel
theorem dX10_keyTwo_163 : decode cX10_keyTwo 163 = .ok (.iconst 0, 1) := by decide +kernel
theorem dX10_keyTwo_164 : decode cX10_keyTwo 164 = .ok (.iload_n 2, 1) := by decide +kernel
theorem dX10_keyTwo_165 : decode cX10_keyTwo 165 = .ok (.aload_n 0, 1) := by decide +kernel
theorem dX10_keyTwo_166 : decode cX10_keyTwo 166 = .ok (.getfield 549, 3) := by decide +kernel
theorem dX10_keyTwo_169 : decode cX10_keyTwo 169 = .ok (.iload 5, 2) := by decide +kernel
theorem dX10_keyTwo_171 : decode cX10_keyTwo 171 = .ok (.invokestatic 217, 3) := by decide +kernel
theorem dX10_keyTwo_174 : decode cX10_keyTwo 174 = .ok (.aload_n 0, 1) := by decide +kernel
theorem dX10_keyTwo_175 : decode cX10_keyTwo 175 = .ok (.getfield 534, 3) := by decide +kernel
theorem dX10_keyTwo_178 : decode cX10_keyTwo 178 = .ok (.iload_n 2, 1) := by decide +kernel
theorem dX10_keyTwo_179 : decode cX10_keyTwo 179 = .ok (.iconst 3, 1) := by decide +kernel
theorem dX10_keyTwo_180 : decode cX10_keyTwo 180 = .ok (.iadd, 1) := by decide +kernel
theorem dX10_keyTwo_181 : decode cX10_keyTwo 181 = .ok (.iload_n 2, 1) := by decide +kernel
theorem dX10_keyTwo_182 : decode cX10_keyTwo 182 = .ok (.aload_n 0, 1) := by decide +kernel
theorem dX10_keyTwo_183 : decode cX10_keyTwo 183 = .ok (.getfield 552, 3) := by decide +kernel
theorem dX10_keyTwo_186 : decode cX10_keyTwo 186 = .ok (.iload 5, 2) := by decide +kernel
theorem dX10_keyTwo_188 : decode cX10_keyTwo 188 = .ok (.invokestatic 217, 3) := by decide +kernel
theorem dX10_keyTwo_191 : decode cX10_keyTwo 191 = .ok (.aload_n 0, 1) := by decide +kernel
theorem dX10_keyTwo_192 : decode cX10_keyTwo 192 = .ok (.getfield 552, 3) := by decide +kernel
theorem dX10_keyTwo_195 : decode cX10_keyTwo 195 = .ok (.iload 5, 2) := by decide +kernel
theorem dX10_keyTwo_197 : decode cX10_keyTwo 197 = .ok (.invokestatic 122, 3) := by decide +kernel
theorem dX10_keyTwo_200 : decode cX10_keyTwo 200 = .ok (.ifCond .ne 19, 3) := by decide +kernel
theorem dX10_keyTwo_203 : decode cX10_keyTwo 203 = .ok (.aload_n 0, 1) := by decide +kernel
theorem dX10_keyTwo_204 : decode cX10_keyTwo 204 = .ok (.getfield 552, 3) := by decide +kernel
theorem dX10_keyTwo_207 : decode cX10_keyTwo 207 = .ok (.aload_n 0, 1) := by decide +kernel
theorem dX10_keyTwo_208 : decode cX10_keyTwo 208 = .ok (.getfield 549, 3) := by decide +kernel
theorem dX10_keyTwo_211 : decode cX10_keyTwo 211 = .ok (.iload 5, 2) := by decide +kernel
theorem dX10_keyTwo_213 : decode cX10_keyTwo 213 = .ok (.invokestatic 26, 3) := by decide +kernel
theorem dX10_keyTwo_216 : decode cX10_keyTwo 216 = .ok (.ifCond .lt 6, 3) := by decide +kernel
theorem dX10_keyTwo_219 : decode cX10_keyTwo 219 = .ok (.bipush (-2), 2) := by decide +kernel
theorem dX10_keyTwo_221 : decode cX10_keyTwo 221 = .ok (.ireturn, 1) := by decide +kernel
theorem dX10_keyTwo_222 : decode cX10_keyTwo 222 = .ok (.aload_n 0, 1) := by decide +kernel
theorem dX10_keyTwo_223 : decode cX10_keyTwo 223 = .ok (.getfield 626, 3) := by decide +kernel
theorem dX10_keyTwo_226 : decode cX10_keyTwo 226 = .ok (.bipush 6, 2) := by decide +kernel
theorem dX10_keyTwo_228 : decode cX10_keyTwo 228 = .ok (.if_icmp .ne 6, 3) := by decide +kernel
theorem dX10_keyTwo_231 : decode cX10_keyTwo 231 = .ok (.bipush (-6), 2) := by decide +kernel
theorem dX10_keyTwo_233 : decode cX10_keyTwo 233 = .ok (.ireturn, 1) := by decide +kernel
theorem dX10_keyTwo_234 : decode cX10_keyTwo 234 = .ok (.aload_n 0, 1) := by decide +kernel
theorem dX10_keyTwo_235 : decode cX10_keyTwo 235 = .ok (.getfield 503, 3) := by decide +kernel
theorem dX10_keyTwo_238 : decode cX10_keyTwo 238 = .ok (.aload_n 0, 1) := by decide +kernel
theorem dX10_keyTwo_239 : decode cX10_keyTwo 239 = .ok (.getfield 626, 3) := by decide +kernel
theorem dX10_keyTwo_242 : decode cX10_keyTwo 242 = .ok (.aaload, 1) := by decide +kernel
theorem dX10_keyTwo_243 : decode cX10_keyTwo 243 = .ok (.aload_n 0, 1) := by decide +kernel
theorem dX10_keyTwo_244 : decode cX10_keyTwo 244 = .ok (.getfield 549, 3) := by decide +kernel
theorem dX10_keyTwo_247 : decode cX10_keyTwo 247 = .ok (.iload 5, 2) := by decide +kernel
theorem dX10_keyTwo_249 : decode cX10_keyTwo 249 = .ok (.invokevirtual 573, 3) := by decide +kernel
theorem dX10_keyTwo_252 : decode cX10_keyTwo 252 = .ok (.aload_n 0, 1) := by decide +kernel
theorem dX10_keyTwo_253 : decode cX10_keyTwo 253 = .ok (.getfield 552, 3) := by decide +kernel
theorem dX10_keyTwo_256 : decode cX10_keyTwo 256 = .ok (.aload_n 0, 1) := by decide +kernel
theorem dX10_keyTwo_257 : decode cX10_keyTwo 257 = .ok (.getfield 475, 3) := by decide +kernel
theorem dX10_keyTwo_260 : decode cX10_keyTwo 260 = .ok (.aload_n 0, 1) := by decide +kernel
theorem dX10_keyTwo_261 : decode cX10_keyTwo 261 = .ok (.getfield 626, 3) := by decide +kernel
theorem dX10_keyTwo_264 : decode cX10_keyTwo 264 = .ok (.aaload, 1) := by decide +kernel
theorem dX10_keyTwo_265 : decode cX10_keyTwo 265 = .ok (.iload 5, 2) := by decide +kernel
theorem dX10_keyTwo_267 : decode cX10_keyTwo 267 = .ok (.invokestatic 91, 3) := by decide +kernel
theorem dX10_keyTwo_270 : decode cX10_keyTwo 270 = .ok (.aload_n 0, 1) := by decide +kernel
theorem dX10_keyTwo_271 : decode cX10_keyTwo 271 = .ok (.getfield 507, 3) := by decide +kernel
theorem dX10_keyTwo_274 : decode cX10_keyTwo 274 = .ok (.aload_n 0, 1) := by decide +kernel
theorem dX10_keyTwo_275 : decode cX10_keyTwo 275 = .ok (.getfield 626, 3) := by decide +kernel
theorem dX10_keyTwo_278 : decode cX10_keyTwo 278 = .ok (.iload_n 3, 1) := by decide +kernel
theorem dX10_keyTwo_279 : decode cX10_keyTwo 279 = .ok (.iastore, 1) := by decide +kernel
theorem dX10_keyTwo_280 : decode cX10_keyTwo 280 = .ok (.aload_n 0, 1) := by decide +kernel
theorem dX10_keyTwo_281 : decode cX10_keyTwo 281 = .ok (.getfield 510, 3) := by decide +kernel
theorem dX10_keyTwo_284 : decode cX10_keyTwo 284 = .ok (.aload_n 0, 1) := by decide +kernel
theorem dX10_keyTwo_285 : decode cX10_keyTwo 285 = .ok (.getfield 626, 3) := by decide +kernel
theorem dX10_keyTwo_288 : decode cX10_keyTwo 288 = .ok (.iload_n 2, 1) := by decide +kernel
theorem dX10_keyTwo_289 : decode cX10_keyTwo 289 = .ok (.iastore, 1) := by decide +kernel
theorem dX10_keyTwo_290 : decode cX10_keyTwo 290 = .ok (.aload_n 0, 1) := by decide +kernel
theorem dX10_keyTwo_291 : decode cX10_keyTwo 291 = .ok (.getfield 513, 3) := by decide +kernel
theorem dX10_keyTwo_294 : decode cX10_keyTwo 294 = .ok (.aload_n 0, 1) := by decide +kernel
theorem dX10_keyTwo_295 : decode cX10_keyTwo 295 = .ok (.getfield 626, 3) := by decide +kernel
theorem dX10_keyTwo_298 : decode cX10_keyTwo 298 = .ok (.iload 4, 2) := by decide +kernel
theorem dX10_keyTwo_300 : decode cX10_keyTwo 300 = .ok (.iastore, 1) := by decide +kernel
theorem dX10_keyTwo_301 : decode cX10_keyTwo 301 = .ok (.aload_n 0, 1) := by decide +kernel
theorem dX10_keyTwo_302 : decode cX10_keyTwo 302 = .ok (.iconst 2, 1) := by decide +kernel
theorem dX10_keyTwo_303 : decode cX10_keyTwo 303 = .ok (.invokevirtual 629, 3) := by decide +kernel
theorem dX10_keyTwo_306 : decode cX10_keyTwo 306 = .ok (.ireturn, 1) := by decide +kernel
abbrev cX10_retire : ByteArray := prog_15_method_81_code
def yX10_retire : MethodName := ⟨RX10, "retire", "(I)Z"⟩
theorem dX10_retire_0 : decode cX10_retire 0 = .ok (.aload_n 0, 1) := by decide +kernel
theorem dX10_retire_1 : decode cX10_retire 1 = .ok (.iconst 0, 1) := by decide +kernel
theorem dX10_retire_2 : decode cX10_retire 2 = .ok (.putfield 1, 3) := by decide +kernel
theorem dX10_retire_5 : decode cX10_retire 5 = .ok (.aload_n 0, 1) := by decide +kernel
theorem dX10_retire_6 : decode cX10_retire 6 = .ok (.iload_n 1, 1) := by decide +kernel
theorem dX10_retire_7 : decode cX10_retire 7 = .ok (.invokevirtual 636, 3) := by decide +kernel
theorem dX10_retire_10 : decode cX10_retire 10 = .ok (.ifCond .eq 10, 3) := by decide +kernel
theorem dX10_retire_13 : decode cX10_retire 13 = .ok (.aload_n 0, 1) := by decide +kernel
theorem dX10_retire_14 : decode cX10_retire 14 = .ok (.iconst 1, 1) := by decide +kernel
theorem dX10_retire_15 : decode cX10_retire 15 = .ok (.putfield 1, 3) := by decide +kernel
theorem dX10_retire_18 : decode cX10_retire 18 = .ok (.iconst 0, 1) := by decide +kernel
theorem dX10_retire_19 : decode cX10_retire 19 = .ok (.ireturn, 1) := by decide +kernel
theorem dX10_retire_20 : decode cX10_retire 20 = .ok (.aload_n 0, 1) := by decide +kernel
theorem dX10_retire_21 : decode cX10_retire 21 = .ok (.getfield 495, 3) := by decide +kernel
theorem dX10_retire_24 : decode cX10_retire 24 = .ok (.iload_n 1, 1) := by decide +kernel
theorem dX10_retire_25 : decode cX10_retire 25 = .ok (.baload, 1) := by decide +kernel
theorem dX10_retire_26 : decode cX10_retire 26 = .ok (.istore_n 2, 1) := by decide +kernel
theorem dX10_retire_27 : decode cX10_retire 27 = .ok (.aload_n 0, 1) := by decide +kernel
theorem dX10_retire_28 : decode cX10_retire 28 = .ok (.getfield 495, 3) := by decide +kernel
theorem dX10_retire_31 : decode cX10_retire 31 = .ok (.iload_n 1, 1) := by decide +kernel
theorem dX10_retire_32 : decode cX10_retire 32 = .ok (.iconst 0, 1) := by decide +kernel
theorem dX10_retire_33 : decode cX10_retire 33 = .ok (.bastore, 1) := by decide +kernel
theorem dX10_retire_34 : decode cX10_retire 34 = .ok (.iload_n 2, 1) := by decide +kernel
theorem dX10_retire_35 : decode cX10_retire 35 = .ok (.ireturn, 1) := by decide +kernel
abbrev cX10_noKey : ByteArray := prog_15_method_80_code
def yX10_noKey : MethodName := ⟨RX10, "noKey", "(I)Z"⟩
theorem dX10_noKey_0 : decode cX10_noKey 0 = .ok (.iload_n 1, 1) := by decide +kernel
theorem dX10_noKey_1 : decode cX10_noKey 1 = .ok (.ifCond .lt 11, 3) := by decide +kernel
theorem dX10_noKey_4 : decode cX10_noKey 4 = .ok (.iload_n 1, 1) := by decide +kernel
theorem dX10_noKey_5 : decode cX10_noKey 5 = .ok (.aload_n 0, 1) := by decide +kernel
theorem dX10_noKey_6 : decode cX10_noKey 6 = .ok (.getfield 626, 3) := by decide +kernel
theorem dX10_noKey_9 : decode cX10_noKey 9 = .ok (.if_icmp .lt 7, 3) := by decide +kernel
theorem dX10_noKey_12 : decode cX10_noKey 12 = .ok (.iconst 1, 1) := by decide +kernel
theorem dX10_noKey_13 : decode cX10_noKey 13 = .ok (.goto 4, 3) := by decide +kernel
theorem dX10_noKey_16 : decode cX10_noKey 16 = .ok (.iconst 0, 1) := by decide +kernel
theorem dX10_noKey_17 : decode cX10_noKey 17 = .ok (.ireturn, 1) := by decide +kernel
abbrev cX10_look : ByteArray := prog_15_method_82_code
def yX10_look : MethodName := ⟨RX10, "look", "(II)I"⟩
theorem dX10_look_0 : decode cX10_look 0 = .ok (.aload_n 0, 1) := by decide +kernel
theorem dX10_look_1 : decode cX10_look 1 = .ok (.iconst 0, 1) := by decide +kernel
theorem dX10_look_2 : decode cX10_look 2 = .ok (.putfield 1, 3) := by decide +kernel
theorem dX10_look_5 : decode cX10_look 5 = .ok (.aload_n 0, 1) := by decide +kernel
theorem dX10_look_6 : decode cX10_look 6 = .ok (.iload_n 1, 1) := by decide +kernel
theorem dX10_look_7 : decode cX10_look 7 = .ok (.invokevirtual 636, 3) := by decide +kernel
theorem dX10_look_10 : decode cX10_look 10 = .ok (.ifCond .ne 12, 3) := by decide +kernel
theorem dX10_look_13 : decode cX10_look 13 = .ok (.iload_n 2, 1) := by decide +kernel
theorem dX10_look_14 : decode cX10_look 14 = .ok (.ifCond .lt 8, 3) := by decide +kernel
theorem dX10_look_17 : decode cX10_look 17 = .ok (.iload_n 2, 1) := by decide +kernel
theorem dX10_look_18 : decode cX10_look 18 = .ok (.iconst 4, 1) := by decide +kernel
theorem dX10_look_19 : decode cX10_look 19 = .ok (.if_icmp .le 10, 3) := by decide +kernel
theorem dX10_look_22 : decode cX10_look 22 = .ok (.aload_n 0, 1) := by decide +kernel
theorem dX10_look_23 : decode cX10_look 23 = .ok (.iconst 1, 1) := by decide +kernel
theorem dX10_look_24 : decode cX10_look 24 = .ok (.putfield 1, 3) := by decide +kernel
theorem dX10_look_27 : decode cX10_look 27 = .ok (.iconst 0, 1) := by decide +kernel
theorem dX10_look_28 : decode cX10_look 28 = .ok (.ireturn, 1) := by decide +kernel
theorem dX10_look_29 : decode cX10_look 29 = .ok (.iload_n 2, 1) := by decide +kernel
theorem dX10_look_30 : decode cX10_look 30 = .ok (.tableswitch 206 0 3 #[30, 70, 184, 191], 30) := by decide +kernel
theorem dX10_look_60 : decode cX10_look 60 = .ok (.iconst 0, 1) := by decide +kernel
theorem dX10_look_61 : decode cX10_look 61 = .ok (.istore_n 3, 1) := by decide +kernel
theorem dX10_look_62 : decode cX10_look 62 = .ok (.iload_n 3, 1) := by decide +kernel
theorem dX10_look_63 : decode cX10_look 63 = .ok (.bipush 32, 2) := by decide +kernel
theorem dX10_look_65 : decode cX10_look 65 = .ok (.if_icmp .ge 26, 3) := by decide +kernel
theorem dX10_look_68 : decode cX10_look 68 = .ok (.aload_n 0, 1) := by decide +kernel
theorem dX10_look_69 : decode cX10_look 69 = .ok (.getfield 537, 3) := by decide +kernel
theorem dX10_look_72 : decode cX10_look 72 = .ok (.iload_n 3, 1) := by decide +kernel
theorem dX10_look_73 : decode cX10_look 73 = .ok (.aload_n 0, 1) := by decide +kernel
theorem dX10_look_74 : decode cX10_look 74 = .ok (.getfield 499, 3) := by decide +kernel
theorem dX10_look_77 : decode cX10_look 77 = .ok (.bipush 32, 2) := by decide +kernel
theorem dX10_look_79 : decode cX10_look 79 = .ok (.iload_n 1, 1) := by decide +kernel
theorem dX10_look_80 : decode cX10_look 80 = .ok (.imul, 1) := by decide +kernel
theorem dX10_look_81 : decode cX10_look 81 = .ok (.iload_n 3, 1) := by decide +kernel
theorem dX10_look_82 : decode cX10_look 82 = .ok (.iadd, 1) := by decide +kernel
theorem dX10_look_83 : decode cX10_look 83 = .ok (.baload, 1) := by decide +kernel
theorem dX10_look_84 : decode cX10_look 84 = .ok (.bastore, 1) := by decide +kernel
theorem dX10_look_85 : decode cX10_look 85 = .ok (.iinc 3 1, 3) := by decide +kernel
theorem dX10_look_88 : decode cX10_look 88 = .ok (.goto (-26), 3) := by decide +kernel
theorem dX10_look_91 : decode cX10_look 91 = .ok (.aload_n 0, 1) := by decide +kernel
theorem dX10_look_92 : decode cX10_look 92 = .ok (.bipush 32, 2) := by decide +kernel
theorem dX10_look_94 : decode cX10_look 94 = .ok (.putfield 606, 3) := by decide +kernel
theorem dX10_look_97 : decode cX10_look 97 = .ok (.bipush 32, 2) := by decide +kernel
theorem dX10_look_99 : decode cX10_look 99 = .ok (.ireturn, 1) := by decide +kernel
theorem dX10_look_100 : decode cX10_look 100 = .ok (.aload_n 0, 1) := by decide +kernel
theorem dX10_look_101 : decode cX10_look 101 = .ok (.getfield 492, 3) := by decide +kernel
theorem dX10_look_104 : decode cX10_look 104 = .ok (.iload_n 1, 1) := by decide +kernel
theorem dX10_look_105 : decode cX10_look 105 = .ok (.iaload, 1) := by decide +kernel
theorem dX10_look_106 : decode cX10_look 106 = .ok (.iconst 1, 1) := by decide +kernel
theorem dX10_look_107 : decode cX10_look 107 = .ok (.if_icmp .ne 26, 3) := by decide +kernel
theorem dX10_look_110 : decode cX10_look 110 = .ok (.aload_n 0, 1) := by decide +kernel
theorem dX10_look_111 : decode cX10_look 111 = .ok (.getfield 458, 3) := by decide +kernel
theorem dX10_look_114 : decode cX10_look 114 = .ok (.iload_n 1, 1) := by decide +kernel
theorem dX10_look_115 : decode cX10_look 115 = .ok (.aaload, 1) := by decide +kernel
theorem dX10_look_116 : decode cX10_look 116 = .ok (.aload_n 0, 1) := by decide +kernel
theorem dX10_look_117 : decode cX10_look 117 = .ok (.getfield 537, 3) := by decide +kernel
theorem dX10_look_120 : decode cX10_look 120 = .ok (.iconst 0, 1) := by decide +kernel
theorem dX10_look_121 : decode cX10_look 121 = .ok (.invokestatic 405, 3) := by decide +kernel
theorem dX10_look_124 : decode cX10_look 124 = .ok (.aload_n 0, 1) := by decide +kernel
theorem dX10_look_125 : decode cX10_look 125 = .ok (.bipush 49, 2) := by decide +kernel
theorem dX10_look_127 : decode cX10_look 127 = .ok (.putfield 606, 3) := by decide +kernel
theorem dX10_look_130 : decode cX10_look 130 = .ok (.goto 79, 3) := by decide +kernel
theorem dX10_look_133 : decode cX10_look 133 = .ok (.aload_n 0, 1) := by decide +kernel
theorem dX10_look_134 : decode cX10_look 134 = .ok (.getfield 503, 3) := by decide +kernel
theorem dX10_look_137 : decode cX10_look 137 = .ok (.iload_n 1, 1) := by decide +kernel
theorem dX10_look_138 : decode cX10_look 138 = .ok (.aaload, 1) := by decide +kernel
theorem dX10_look_139 : decode cX10_look 139 = .ok (.getfield 22, 3) := by decide +kernel
theorem dX10_look_142 : decode cX10_look 142 = .ok (.aload_n 0, 1) := by decide +kernel
theorem dX10_look_143 : decode cX10_look 143 = .ok (.getfield 537, 3) := by decide +kernel
theorem dX10_look_146 : decode cX10_look 146 = .ok (.iconst 0, 1) := by decide +kernel
theorem dX10_look_147 : decode cX10_look 147 = .ok (.aload_n 0, 1) := by decide +kernel
theorem dX10_look_148 : decode cX10_look 148 = .ok (.getfield 510, 3) := by decide +kernel
theorem dX10_look_151 : decode cX10_look 151 = .ok (.iload_n 1, 1) := by decide +kernel
theorem dX10_look_152 : decode cX10_look 152 = .ok (.iaload, 1) := by decide +kernel
theorem dX10_look_153 : decode cX10_look 153 = .ok (.invokestatic 232, 3) := by decide +kernel
theorem dX10_look_156 : decode cX10_look 156 = .ok (.iconst 0, 1) := by decide +kernel
theorem dX10_look_157 : decode cX10_look 157 = .ok (.istore_n 3, 1) := by decide +kernel
theorem dX10_look_158 : decode cX10_look 158 = .ok (.iload_n 3, 1) := by decide +kernel
theorem dX10_look_159 : decode cX10_look 159 = .ok (.iconst 3, 1) := by decide +kernel
theorem dX10_look_160 : decode cX10_look 160 = .ok (.if_icmp .ge 37, 3) := by decide +kernel
theorem dX10_look_163 : decode cX10_look 163 = .ok (.aload_n 0, 1) := by decide +kernel
theorem dX10_look_164 : decode cX10_look 164 = .ok (.getfield 537, 3) := by decide +kernel
theorem dX10_look_167 : decode cX10_look 167 = .ok (.aload_n 0, 1) := by decide +kernel
theorem dX10_look_168 : decode cX10_look 168 = .ok (.getfield 510, 3) := by decide +kernel
theorem dX10_look_171 : decode cX10_look 171 = .ok (.iload_n 1, 1) := by decide +kernel
theorem dX10_look_172 : decode cX10_look 172 = .ok (.iaload, 1) := by decide +kernel
theorem dX10_look_173 : decode cX10_look 173 = .ok (.iload_n 3, 1) := by decide +kernel
theorem dX10_look_174 : decode cX10_look 174 = .ok (.iadd, 1) := by decide +kernel
theorem dX10_look_175 : decode cX10_look 175 = .ok (.aload_n 0, 1) := by decide +kernel
theorem dX10_look_176 : decode cX10_look 176 = .ok (.getfield 507, 3) := by decide +kernel
theorem dX10_look_179 : decode cX10_look 179 = .ok (.iload_n 1, 1) := by decide +kernel
theorem dX10_look_180 : decode cX10_look 180 = .ok (.iaload, 1) := by decide +kernel
theorem dX10_look_181 : decode cX10_look 181 = .ok (.bipush 16, 2) := by decide +kernel
theorem dX10_look_183 : decode cX10_look 183 = .ok (.bipush 8, 2) := by decide +kernel
theorem dX10_look_185 : decode cX10_look 185 = .ok (.iload_n 3, 1) := by decide +kernel
theorem dX10_look_186 : decode cX10_look 186 = .ok (.imul, 1) := by decide +kernel
theorem dX10_look_187 : decode cX10_look 187 = .ok (.isub, 1) := by decide +kernel
theorem dX10_look_188 : decode cX10_look 188 = .ok (.ishr, 1) := by decide +kernel
theorem dX10_look_189 : decode cX10_look 189 = .ok (.i2b, 1) := by decide +kernel
theorem dX10_look_190 : decode cX10_look 190 = .ok (.bastore, 1) := by decide +kernel
theorem dX10_look_191 : decode cX10_look 191 = .ok (.iinc 3 1, 3) := by decide +kernel
theorem dX10_look_194 : decode cX10_look 194 = .ok (.goto (-36), 3) := by decide +kernel
theorem dX10_look_197 : decode cX10_look 197 = .ok (.aload_n 0, 1) := by decide +kernel
theorem dX10_look_198 : decode cX10_look 198 = .ok (.aload_n 0, 1) := by decide +kernel
theorem dX10_look_199 : decode cX10_look 199 = .ok (.getfield 510, 3) := by decide +kernel
theorem dX10_look_202 : decode cX10_look 202 = .ok (.iload_n 1, 1) := by decide +kernel
theorem dX10_look_203 : decode cX10_look 203 = .ok (.iaload, 1) := by decide +kernel
theorem dX10_look_204 : decode cX10_look 204 = .ok (.iconst 3, 1) := by decide +kernel
theorem dX10_look_205 : decode cX10_look 205 = .ok (.iadd, 1) := by decide +kernel
theorem dX10_look_206 : decode cX10_look 206 = .ok (.putfield 606, 3) := by decide +kernel
theorem dX10_look_209 : decode cX10_look 209 = .ok (.aload_n 0, 1) := by decide +kernel
theorem dX10_look_210 : decode cX10_look 210 = .ok (.getfield 606, 3) := by decide +kernel
theorem dX10_look_213 : decode cX10_look 213 = .ok (.ireturn, 1) := by decide +kernel
theorem dX10_look_214 : decode cX10_look 214 = .ok (.aload_n 0, 1) := by decide +kernel
theorem dX10_look_215 : decode cX10_look 215 = .ok (.getfield 492, 3) := by decide +kernel
theorem dX10_look_218 : decode cX10_look 218 = .ok (.iload_n 1, 1) := by decide +kernel
theorem dX10_look_219 : decode cX10_look 219 = .ok (.iaload, 1) := by decide +kernel
theorem dX10_look_220 : decode cX10_look 220 = .ok (.ireturn, 1) := by decide +kernel
theorem dX10_look_221 : decode cX10_look 221 = .ok (.aload_n 0, 1) := by decide +kernel
theorem dX10_look_222 : decode cX10_look 222 = .ok (.getfield 495, 3) := by decide +kernel
theorem dX10_look_225 : decode cX10_look 225 = .ok (.iload_n 1, 1) := by decide +kernel
theorem dX10_look_226 : decode cX10_look 226 = .ok (.baload, 1) := by decide +kernel
theorem dX10_look_227 : decode cX10_look 227 = .ok (.ifCond .eq 7, 3) := by decide +kernel
theorem dX10_look_230 : decode cX10_look 230 = .ok (.iconst 1, 1) := by decide +kernel
theorem dX10_look_231 : decode cX10_look 231 = .ok (.goto 4, 3) := by decide +kernel
theorem dX10_look_234 : decode cX10_look 234 = .ok (.iconst 0, 1) := by decide +kernel
theorem dX10_look_235 : decode cX10_look 235 = .ok (.ireturn, 1) := by decide +kernel
theorem dX10_look_236 : decode cX10_look 236 = .ok (.aload_n 0, 1) := by decide +kernel
theorem dX10_look_237 : decode cX10_look 237 = .ok (.getfield 510, 3) := by decide +kernel
theorem dX10_look_240 : decode cX10_look 240 = .ok (.iload_n 1, 1) := by decide +kernel
theorem dX10_look_241 : decode cX10_look 241 = .ok (.iaload, 1) := by decide +kernel
theorem dX10_look_242 : decode cX10_look 242 = .ok (.ireturn, 1) := by decide +kernel
abbrev cX10_digest : ByteArray := prog_15_method_83_code
def yX10_digest : MethodName := ⟨RX10, "digest", "()I"⟩
theorem dX10_digest_0 : decode cX10_digest 0 = .ok (.aload_n 0, 1) := by decide +kernel
theorem dX10_digest_1 : decode cX10_digest 1 = .ok (.invokevirtual 612, 3) := by decide +kernel
theorem dX10_digest_4 : decode cX10_digest 4 = .ok (.istore_n 1, 1) := by decide +kernel
theorem dX10_digest_5 : decode cX10_digest 5 = .ok (.aload_n 0, 1) := by decide +kernel
theorem dX10_digest_6 : decode cX10_digest 6 = .ok (.iconst 0, 1) := by decide +kernel
theorem dX10_digest_7 : decode cX10_digest 7 = .ok (.putfield 243, 3) := by decide +kernel
theorem dX10_digest_10 : decode cX10_digest 10 = .ok (.aload_n 0, 1) := by decide +kernel
theorem dX10_digest_11 : decode cX10_digest 11 = .ok (.aload_n 0, 1) := by decide +kernel
theorem dX10_digest_12 : decode cX10_digest 12 = .ok (.getfield 534, 3) := by decide +kernel
theorem dX10_digest_15 : decode cX10_digest 15 = .ok (.iconst 0, 1) := by decide +kernel
theorem dX10_digest_16 : decode cX10_digest 16 = .ok (.iload_n 1, 1) := by decide +kernel
theorem dX10_digest_17 : decode cX10_digest 17 = .ok (.invokevirtual 325, 3) := by decide +kernel
theorem dX10_digest_20 : decode cX10_digest 20 = .ok (.aload_n 0, 1) := by decide +kernel
theorem dX10_digest_21 : decode cX10_digest 21 = .ok (.invokevirtual 609, 3) := by decide +kernel
theorem dX10_digest_24 : decode cX10_digest 24 = .ok (.iconst 0, 1) := by decide +kernel
theorem dX10_digest_25 : decode cX10_digest 25 = .ok (.istore_n 2, 1) := by decide +kernel
theorem dX10_digest_26 : decode cX10_digest 26 = .ok (.iload_n 2, 1) := by decide +kernel
theorem dX10_digest_27 : decode cX10_digest 27 = .ok (.bipush 32, 2) := by decide +kernel
theorem dX10_digest_29 : decode cX10_digest 29 = .ok (.if_icmp .ge 21, 3) := by decide +kernel
theorem dX10_digest_32 : decode cX10_digest 32 = .ok (.aload_n 0, 1) := by decide +kernel
theorem dX10_digest_33 : decode cX10_digest 33 = .ok (.getfield 537, 3) := by decide +kernel
theorem dX10_digest_36 : decode cX10_digest 36 = .ok (.iload_n 2, 1) := by decide +kernel
theorem dX10_digest_37 : decode cX10_digest 37 = .ok (.aload_n 0, 1) := by decide +kernel
theorem dX10_digest_38 : decode cX10_digest 38 = .ok (.getfield 283, 3) := by decide +kernel
theorem dX10_digest_41 : decode cX10_digest 41 = .ok (.iload_n 2, 1) := by decide +kernel
theorem dX10_digest_42 : decode cX10_digest 42 = .ok (.baload, 1) := by decide +kernel
theorem dX10_digest_43 : decode cX10_digest 43 = .ok (.bastore, 1) := by decide +kernel
theorem dX10_digest_44 : decode cX10_digest 44 = .ok (.iinc 2 1, 3) := by decide +kernel
theorem dX10_digest_47 : decode cX10_digest 47 = .ok (.goto (-21), 3) := by decide +kernel
theorem dX10_digest_50 : decode cX10_digest 50 = .ok (.aload_n 0, 1) := by decide +kernel
theorem dX10_digest_51 : decode cX10_digest 51 = .ok (.bipush 32, 2) := by decide +kernel
theorem dX10_digest_53 : decode cX10_digest 53 = .ok (.putfield 606, 3) := by decide +kernel
theorem dX10_digest_56 : decode cX10_digest 56 = .ok (.bipush 32, 2) := by decide +kernel
theorem dX10_digest_58 : decode cX10_digest 58 = .ok (.ireturn, 1) := by decide +kernel
abbrev cX10_request : ByteArray := prog_15_method_84_code
def yX10_request : MethodName := ⟨RX10, "request", "(I)I"⟩
theorem dX10_request_0 : decode cX10_request 0 = .ok (.aload_n 0, 1) := by decide +kernel
theorem dX10_request_1 : decode cX10_request 1 = .ok (.invokevirtual 612, 3) := by decide +kernel
theorem dX10_request_4 : decode cX10_request 4 = .ok (.istore_n 2, 1) := by decide +kernel
theorem dX10_request_5 : decode cX10_request 5 = .ok (.aload_n 0, 1) := by decide +kernel
theorem dX10_request_6 : decode cX10_request 6 = .ok (.iload_n 1, 1) := by decide +kernel
theorem dX10_request_7 : decode cX10_request 7 = .ok (.invokevirtual 636, 3) := by decide +kernel
theorem dX10_request_10 : decode cX10_request 10 = .ok (.ifCond .ne 12, 3) := by decide +kernel
theorem dX10_request_13 : decode cX10_request 13 = .ok (.aload_n 0, 1) := by decide +kernel
theorem dX10_request_14 : decode cX10_request 14 = .ok (.getfield 495, 3) := by decide +kernel
theorem dX10_request_17 : decode cX10_request 17 = .ok (.iload_n 1, 1) := by decide +kernel
theorem dX10_request_18 : decode cX10_request 18 = .ok (.baload, 1) := by decide +kernel
theorem dX10_request_19 : decode cX10_request 19 = .ok (.ifCond .ne 6, 3) := by decide +kernel
theorem dX10_request_22 : decode cX10_request 22 = .ok (.bipush (-3), 2) := by decide +kernel
theorem dX10_request_24 : decode cX10_request 24 = .ok (.ireturn, 1) := by decide +kernel
theorem dX10_request_25 : decode cX10_request 25 = .ok (.aload_n 0, 1) := by decide +kernel
theorem dX10_request_26 : decode cX10_request 26 = .ok (.getfield 492, 3) := by decide +kernel
theorem dX10_request_29 : decode cX10_request 29 = .ok (.iload_n 1, 1) := by decide +kernel
theorem dX10_request_30 : decode cX10_request 30 = .ok (.iaload, 1) := by decide +kernel
theorem dX10_request_31 : decode cX10_request 31 = .ok (.iconst 1, 1) := by decide +kernel
theorem dX10_request_32 : decode cX10_request 32 = .ok (.if_icmp .ne 8, 3) := by decide +kernel
theorem dX10_request_35 : decode cX10_request 35 = .ok (.bipush 48, 2) := by decide +kernel
theorem dX10_request_37 : decode cX10_request 37 = .ok (.goto 16, 3) := by decide +kernel
theorem dX10_request_40 : decode cX10_request 40 = .ok (.aload_n 0, 1) := by decide +kernel
theorem dX10_request_41 : decode cX10_request 41 = .ok (.getfield 513, 3) := by decide +kernel
theorem dX10_request_44 : decode cX10_request 44 = .ok (.iload_n 1, 1) := by decide +kernel
theorem dX10_request_45 : decode cX10_request 45 = .ok (.iaload, 1) := by decide +kernel
theorem dX10_request_46 : decode cX10_request 46 = .ok (.aload_n 0, 1) := by decide +kernel
theorem dX10_request_47 : decode cX10_request 47 = .ok (.getfield 510, 3) := by decide +kernel
theorem dX10_request_50 : decode cX10_request 50 = .ok (.iload_n 1, 1) := by decide +kernel
theorem dX10_request_51 : decode cX10_request 51 = .ok (.iaload, 1) := by decide +kernel
theorem dX10_request_52 : decode cX10_request 52 = .ok (.iadd, 1) := by decide +kernel
theorem dX10_request_53 : decode cX10_request 53 = .ok (.istore_n 3, 1) := by decide +kernel
theorem dX10_request_54 : decode cX10_request 54 = .ok (.iload_n 2, 1) := by decide +kernel
theorem dX10_request_55 : decode cX10_request 55 = .ok (.bipush 64, 2) := by decide +kernel
theorem dX10_request_57 : decode cX10_request 57 = .ok (.iload_n 3, 1) := by decide +kernel
theorem dX10_request_58 : decode cX10_request 58 = .ok (.iadd, 1) := by decide +kernel
theorem dX10_request_59 : decode cX10_request 59 = .ok (.if_icmp .eq 6, 3) := by decide +kernel
theorem dX10_request_62 : decode cX10_request 62 = .ok (.bipush (-2), 2) := by decide +kernel
theorem dX10_request_64 : decode cX10_request 64 = .ok (.ireturn, 1) := by decide +kernel
theorem dX10_request_65 : decode cX10_request 65 = .ok (.aload_n 0, 1) := by decide +kernel
theorem dX10_request_66 : decode cX10_request 66 = .ok (.getfield 640, 3) := by decide +kernel
theorem dX10_request_69 : decode cX10_request 69 = .ok (.bipush 60, 2) := by decide +kernel
theorem dX10_request_71 : decode cX10_request 71 = .ok (.if_icmp .ne 6, 3) := by decide +kernel
theorem dX10_request_74 : decode cX10_request 74 = .ok (.bipush (-6), 2) := by decide +kernel
theorem dX10_request_76 : decode cX10_request 76 = .ok (.ireturn, 1) := by decide +kernel
theorem dX10_request_77 : decode cX10_request 77 = .ok (.bipush 98, 2) := by decide +kernel
theorem dX10_request_79 : decode cX10_request 79 = .ok (.aload_n 0, 1) := by decide +kernel
theorem dX10_request_80 : decode cX10_request 80 = .ok (.getfield 640, 3) := by decide +kernel
theorem dX10_request_83 : decode cX10_request 83 = .ok (.imul, 1) := by decide +kernel
theorem dX10_request_84 : decode cX10_request 84 = .ok (.istore 4, 2) := by decide +kernel
theorem dX10_request_86 : decode cX10_request 86 = .ok (.aload_n 0, 1) := by decide +kernel
theorem dX10_request_87 : decode cX10_request 87 = .ok (.getfield 522, 3) := by decide +kernel
theorem dX10_request_90 : decode cX10_request 90 = .ok (.iload 4, 2) := by decide +kernel
theorem dX10_request_92 : decode cX10_request 92 = .ok (.iconst 0, 1) := by decide +kernel
theorem dX10_request_93 : decode cX10_request 93 = .ok (.bastore, 1) := by decide +kernel
theorem dX10_request_94 : decode cX10_request 94 = .ok (.aload_n 0, 1) := by decide +kernel
theorem dX10_request_95 : decode cX10_request 95 = .ok (.getfield 522, 3) := by decide +kernel
theorem dX10_request_98 : decode cX10_request 98 = .ok (.iload 4, 2) := by decide +kernel
theorem dX10_request_100 : decode cX10_request 100 = .ok (.iconst 1, 1) := by decide +kernel
theorem dX10_request_101 : decode cX10_request 101 = .ok (.iadd, 1) := by decide +kernel
theorem dX10_request_102 : decode cX10_request 102 = .ok (.aload_n 0, 1) := by decide +kernel
theorem dX10_request_103 : decode cX10_request 103 = .ok (.getfield 492, 3) := by decide +kernel
theorem dX10_request_106 : decode cX10_request 106 = .ok (.iload_n 1, 1) := by decide +kernel
theorem dX10_request_107 : decode cX10_request 107 = .ok (.iaload, 1) := by decide +kernel
theorem dX10_request_108 : decode cX10_request 108 = .ok (.i2b, 1) := by decide +kernel
theorem dX10_request_109 : decode cX10_request 109 = .ok (.bastore, 1) := by decide +kernel
theorem dX10_request_110 : decode cX10_request 110 = .ok (.iconst 0, 1) := by decide +kernel
theorem dX10_request_111 : decode cX10_request 111 = .ok (.istore 5, 2) := by decide +kernel
theorem dX10_request_113 : decode cX10_request 113 = .ok (.iload 5, 2) := by decide +kernel
theorem dX10_request_115 : decode cX10_request 115 = .ok (.bipush 64, 2) := by decide +kernel
theorem dX10_request_117 : decode cX10_request 117 = .ok (.if_icmp .ge 28, 3) := by decide +kernel
theorem dX10_request_120 : decode cX10_request 120 = .ok (.aload_n 0, 1) := by decide +kernel
theorem dX10_request_121 : decode cX10_request 121 = .ok (.getfield 522, 3) := by decide +kernel
theorem dX10_request_124 : decode cX10_request 124 = .ok (.iload 4, 2) := by decide +kernel
theorem dX10_request_126 : decode cX10_request 126 = .ok (.iconst 2, 1) := by decide +kernel
theorem dX10_request_127 : decode cX10_request 127 = .ok (.iadd, 1) := by decide +kernel
theorem dX10_request_128 : decode cX10_request 128 = .ok (.iload 5, 2) := by decide +kernel
theorem dX10_request_130 : decode cX10_request 130 = .ok (.iadd, 1) := by decide +kernel
theorem dX10_request_131 : decode cX10_request 131 = .ok (.aload_n 0, 1) := by decide +kernel
theorem dX10_request_132 : decode cX10_request 132 = .ok (.getfield 534, 3) := by decide +kernel
theorem dX10_request_135 : decode cX10_request 135 = .ok (.iload 5, 2) := by decide +kernel
theorem dX10_request_137 : decode cX10_request 137 = .ok (.baload, 1) := by decide +kernel
theorem dX10_request_138 : decode cX10_request 138 = .ok (.bastore, 1) := by decide +kernel
theorem dX10_request_139 : decode cX10_request 139 = .ok (.iinc 5 1, 3) := by decide +kernel
theorem dX10_request_142 : decode cX10_request 142 = .ok (.goto (-29), 3) := by decide +kernel
theorem dX10_request_145 : decode cX10_request 145 = .ok (.iconst 0, 1) := by decide +kernel
theorem dX10_request_146 : decode cX10_request 146 = .ok (.istore 5, 2) := by decide +kernel
theorem dX10_request_148 : decode cX10_request 148 = .ok (.iload 5, 2) := by decide +kernel
theorem dX10_request_150 : decode cX10_request 150 = .ok (.bipush 32, 2) := by decide +kernel
theorem dX10_request_152 : decode cX10_request 152 = .ok (.if_icmp .ge 34, 3) := by decide +kernel
theorem dX10_request_155 : decode cX10_request 155 = .ok (.aload_n 0, 1) := by decide +kernel
theorem dX10_request_156 : decode cX10_request 156 = .ok (.getfield 522, 3) := by decide +kernel
theorem dX10_request_159 : decode cX10_request 159 = .ok (.iload 4, 2) := by decide +kernel
theorem dX10_request_161 : decode cX10_request 161 = .ok (.bipush 66, 2) := by decide +kernel
theorem dX10_request_163 : decode cX10_request 163 = .ok (.iadd, 1) := by decide +kernel
theorem dX10_request_164 : decode cX10_request 164 = .ok (.iload 5, 2) := by decide +kernel
theorem dX10_request_166 : decode cX10_request 166 = .ok (.iadd, 1) := by decide +kernel
theorem dX10_request_167 : decode cX10_request 167 = .ok (.aload_n 0, 1) := by decide +kernel
theorem dX10_request_168 : decode cX10_request 168 = .ok (.getfield 499, 3) := by decide +kernel
theorem dX10_request_171 : decode cX10_request 171 = .ok (.bipush 32, 2) := by decide +kernel
theorem dX10_request_173 : decode cX10_request 173 = .ok (.iload_n 1, 1) := by decide +kernel
theorem dX10_request_174 : decode cX10_request 174 = .ok (.imul, 1) := by decide +kernel
theorem dX10_request_175 : decode cX10_request 175 = .ok (.iload 5, 2) := by decide +kernel
theorem dX10_request_177 : decode cX10_request 177 = .ok (.iadd, 1) := by decide +kernel
theorem dX10_request_178 : decode cX10_request 178 = .ok (.baload, 1) := by decide +kernel
theorem dX10_request_179 : decode cX10_request 179 = .ok (.bastore, 1) := by decide +kernel
theorem dX10_request_180 : decode cX10_request 180 = .ok (.iinc 5 1, 3) := by decide +kernel
theorem dX10_request_183 : decode cX10_request 183 = .ok (.goto (-35), 3) := by decide +kernel
theorem dX10_request_186 : decode cX10_request 186 = .ok (.aload_n 0, 1) := by decide +kernel
theorem dX10_request_187 : decode cX10_request 187 = .ok (.getfield 492, 3) := by decide +kernel
theorem dX10_request_190 : decode cX10_request 190 = .ok (.iload_n 1, 1) := by decide +kernel
theorem dX10_request_191 : decode cX10_request 191 = .ok (.iaload, 1) := by decide +kernel
theorem dX10_request_192 : decode cX10_request 192 = .ok (.iconst 1, 1) := by decide +kernel
theorem dX10_request_193 : decode cX10_request 193 = .ok (.if_icmp .ne 12, 3) := by decide +kernel
theorem dX10_request_196 : decode cX10_request 196 = .ok (.aload_n 0, 1) := by decide +kernel
theorem dX10_request_197 : decode cX10_request 197 = .ok (.iload 4, 2) := by decide +kernel
theorem dX10_request_199 : decode cX10_request 199 = .ok (.invokevirtual 643, 3) := by decide +kernel
theorem dX10_request_202 : decode cX10_request 202 = .ok (.goto 10, 3) := by decide +kernel
theorem dX10_request_205 : decode cX10_request 205 = .ok (.aload_n 0, 1) := by decide +kernel
theorem dX10_request_206 : decode cX10_request 206 = .ok (.iload_n 1, 1) := by decide +kernel
theorem dX10_request_207 : decode cX10_request 207 = .ok (.iload 4, 2) := by decide +kernel
theorem dX10_request_209 : decode cX10_request 209 = .ok (.invokevirtual 646, 3) := by decide +kernel
theorem dX10_request_212 : decode cX10_request 212 = .ok (.istore 5, 2) := by decide +kernel
theorem dX10_request_214 : decode cX10_request 214 = .ok (.iload 5, 2) := by decide +kernel
theorem dX10_request_216 : decode cX10_request 216 = .ok (.ifCond .ne 6, 3) := by decide +kernel
theorem dX10_request_219 : decode cX10_request 219 = .ok (.bipush (-4), 2) := by decide +kernel
theorem dX10_request_221 : decode cX10_request 221 = .ok (.ireturn, 1) := by decide +kernel
theorem dX10_request_222 : decode cX10_request 222 = .ok (.aload_n 0, 1) := by decide +kernel
theorem dX10_request_223 : decode cX10_request 223 = .ok (.getfield 537, 3) := by decide +kernel
theorem dX10_request_226 : decode cX10_request 226 = .ok (.iconst 0, 1) := by decide +kernel
theorem dX10_request_227 : decode cX10_request 227 = .ok (.iconst 0, 1) := by decide +kernel
theorem dX10_request_228 : decode cX10_request 228 = .ok (.bastore, 1) := by decide +kernel
theorem dX10_request_229 : decode cX10_request 229 = .ok (.aload_n 0, 1) := by decide +kernel
theorem dX10_request_230 : decode cX10_request 230 = .ok (.getfield 537, 3) := by decide +kernel
theorem dX10_request_233 : decode cX10_request 233 = .ok (.iconst 1, 1) := by decide +kernel
theorem dX10_request_234 : decode cX10_request 234 = .ok (.aload_n 0, 1) := by decide +kernel
theorem dX10_request_235 : decode cX10_request 235 = .ok (.getfield 492, 3) := by decide +kernel
theorem dX10_request_238 : decode cX10_request 238 = .ok (.iload_n 1, 1) := by decide +kernel
theorem dX10_request_239 : decode cX10_request 239 = .ok (.iaload, 1) := by decide +kernel
theorem dX10_request_240 : decode cX10_request 240 = .ok (.i2b, 1) := by decide +kernel
theorem dX10_request_241 : decode cX10_request 241 = .ok (.bastore, 1) := by decide +kernel
theorem dX10_request_242 : decode cX10_request 242 = .ok (.aload_n 0, 1) := by decide +kernel
theorem dX10_request_243 : decode cX10_request 243 = .ok (.getfield 537, 3) := by decide +kernel
theorem dX10_request_246 : decode cX10_request 246 = .ok (.iconst 2, 1) := by decide +kernel
theorem dX10_request_247 : decode cX10_request 247 = .ok (.aload_n 0, 1) := by decide +kernel
theorem dX10_request_248 : decode cX10_request 248 = .ok (.getfield 499, 3) := by decide +kernel
theorem dX10_request_251 : decode cX10_request 251 = .ok (.bipush 32, 2) := by decide +kernel
theorem dX10_request_253 : decode cX10_request 253 = .ok (.iload_n 1, 1) := by decide +kernel
theorem dX10_request_254 : decode cX10_request 254 = .ok (.imul, 1) := by decide +kernel
theorem dX10_request_255 : decode cX10_request 255 = .ok (.bipush 31, 2) := by decide +kernel
theorem dX10_request_257 : decode cX10_request 257 = .ok (.iadd, 1) := by decide +kernel
theorem dX10_request_258 : decode cX10_request 258 = .ok (.baload, 1) := by decide +kernel
theorem dX10_request_259 : decode cX10_request 259 = .ok (.bastore, 1) := by decide +kernel
theorem dX10_request_260 : decode cX10_request 260 = .ok (.aload_n 0, 1) := by decide +kernel
theorem dX10_request_261 : decode cX10_request 261 = .ok (.getfield 492, 3) := by decide +kernel
theorem dX10_request_264 : decode cX10_request 264 = .ok (.iload_n 1, 1) := by decide +kernel
theorem dX10_request_265 : decode cX10_request 265 = .ok (.iaload, 1) := by decide +kernel
theorem dX10_request_266 : decode cX10_request 266 = .ok (.iconst 1, 1) := by decide +kernel
theorem dX10_request_267 : decode cX10_request 267 = .ok (.if_icmp .ne 24, 3) := by decide +kernel
theorem dX10_request_270 : decode cX10_request 270 = .ok (.aload_n 0, 1) := by decide +kernel
theorem dX10_request_271 : decode cX10_request 271 = .ok (.getfield 564, 3) := by decide +kernel
theorem dX10_request_274 : decode cX10_request 274 = .ok (.aload_n 0, 1) := by decide +kernel
theorem dX10_request_275 : decode cX10_request 275 = .ok (.getfield 537, 3) := by decide +kernel
theorem dX10_request_278 : decode cX10_request 278 = .ok (.iconst 3, 1) := by decide +kernel
theorem dX10_request_279 : decode cX10_request 279 = .ok (.invokestatic 405, 3) := by decide +kernel
theorem dX10_request_282 : decode cX10_request 282 = .ok (.aload_n 0, 1) := by decide +kernel
theorem dX10_request_283 : decode cX10_request 283 = .ok (.bipush 52, 2) := by decide +kernel
theorem dX10_request_285 : decode cX10_request 285 = .ok (.putfield 606, 3) := by decide +kernel
theorem dX10_request_288 : decode cX10_request 288 = .ok (.goto 33, 3) := by decide +kernel
theorem dX10_request_291 : decode cX10_request 291 = .ok (.aload_n 0, 1) := by decide +kernel
theorem dX10_request_292 : decode cX10_request 292 = .ok (.getfield 552, 3) := by decide +kernel
theorem dX10_request_295 : decode cX10_request 295 = .ok (.aload_n 0, 1) := by decide +kernel
theorem dX10_request_296 : decode cX10_request 296 = .ok (.getfield 537, 3) := by decide +kernel
theorem dX10_request_299 : decode cX10_request 299 = .ok (.iconst 3, 1) := by decide +kernel
theorem dX10_request_300 : decode cX10_request 300 = .ok (.aload_n 0, 1) := by decide +kernel
theorem dX10_request_301 : decode cX10_request 301 = .ok (.getfield 510, 3) := by decide +kernel
theorem dX10_request_304 : decode cX10_request 304 = .ok (.iload_n 1, 1) := by decide +kernel
theorem dX10_request_305 : decode cX10_request 305 = .ok (.iaload, 1) := by decide +kernel
theorem dX10_request_306 : decode cX10_request 306 = .ok (.invokestatic 232, 3) := by decide +kernel
theorem dX10_request_309 : decode cX10_request 309 = .ok (.aload_n 0, 1) := by decide +kernel
theorem dX10_request_310 : decode cX10_request 310 = .ok (.iconst 3, 1) := by decide +kernel
theorem dX10_request_311 : decode cX10_request 311 = .ok (.aload_n 0, 1) := by decide +kernel
theorem dX10_request_312 : decode cX10_request 312 = .ok (.getfield 510, 3) := by decide +kernel
theorem dX10_request_315 : decode cX10_request 315 = .ok (.iload_n 1, 1) := by decide +kernel
theorem dX10_request_316 : decode cX10_request 316 = .ok (.iaload, 1) := by decide +kernel
theorem dX10_request_317 : decode cX10_request 317 = .ok (.iadd, 1) := by decide +kernel
theorem dX10_request_318 : decode cX10_request 318 = .ok (.putfield 606, 3) := by decide +kernel
theorem dX10_request_321 : decode cX10_request 321 = .ok (.aload_n 0, 1) := by decide +kernel
theorem dX10_request_322 : decode cX10_request 322 = .ok (.getfield 516, 3) := by decide +kernel
theorem dX10_request_325 : decode cX10_request 325 = .ok (.aload_n 0, 1) := by decide +kernel
theorem dX10_request_326 : decode cX10_request 326 = .ok (.getfield 640, 3) := by decide +kernel
theorem dX10_request_329 : decode cX10_request 329 = .ok (.iload_n 1, 1) := by decide +kernel
theorem dX10_request_330 : decode cX10_request 330 = .ok (.iastore, 1) := by decide +kernel
theorem dX10_request_331 : decode cX10_request 331 = .ok (.aload_n 0, 1) := by decide +kernel
theorem dX10_request_332 : decode cX10_request 332 = .ok (.getfield 519, 3) := by decide +kernel
theorem dX10_request_335 : decode cX10_request 335 = .ok (.aload_n 0, 1) := by decide +kernel
theorem dX10_request_336 : decode cX10_request 336 = .ok (.getfield 640, 3) := by decide +kernel
theorem dX10_request_339 : decode cX10_request 339 = .ok (.iconst 1, 1) := by decide +kernel
theorem dX10_request_340 : decode cX10_request 340 = .ok (.bastore, 1) := by decide +kernel
theorem dX10_request_341 : decode cX10_request 341 = .ok (.aload_n 0, 1) := by decide +kernel
theorem dX10_request_342 : decode cX10_request 342 = .ok (.dup, 1) := by decide +kernel
theorem dX10_request_343 : decode cX10_request 343 = .ok (.getfield 640, 3) := by decide +kernel
theorem dX10_request_346 : decode cX10_request 346 = .ok (.iconst 1, 1) := by decide +kernel
theorem dX10_request_347 : decode cX10_request 347 = .ok (.iadd, 1) := by decide +kernel
theorem dX10_request_348 : decode cX10_request 348 = .ok (.putfield 640, 3) := by decide +kernel
theorem dX10_request_351 : decode cX10_request 351 = .ok (.aload_n 0, 1) := by decide +kernel
theorem dX10_request_352 : decode cX10_request 352 = .ok (.getfield 640, 3) := by decide +kernel
theorem dX10_request_355 : decode cX10_request 355 = .ok (.iconst 1, 1) := by decide +kernel
theorem dX10_request_356 : decode cX10_request 356 = .ok (.isub, 1) := by decide +kernel
theorem dX10_request_357 : decode cX10_request 357 = .ok (.ireturn, 1) := by decide +kernel
abbrev cX10_blindsOne : ByteArray := prog_15_method_85_code
def yX10_blindsOne : MethodName := ⟨RX10, "blindsOne", "(I)Z"⟩
theorem dX10_blindsOne_0 : decode cX10_blindsOne 0 = .ok (.aload_n 0, 1) := by decide +kernel
theorem dX10_blindsOne_1 : decode cX10_blindsOne 1 = .ok (.getfield 534, 3) := by decide +kernel
theorem dX10_blindsOne_4 : decode cX10_blindsOne 4 = .ok (.bipush 64, 2) := by decide +kernel
theorem dX10_blindsOne_6 : decode cX10_blindsOne 6 = .ok (.bipush 48, 2) := by decide +kernel
theorem dX10_blindsOne_8 : decode cX10_blindsOne 8 = .ok (.aload_n 0, 1) := by decide +kernel
theorem dX10_blindsOne_9 : decode cX10_blindsOne 9 = .ok (.getfield 437, 3) := by decide +kernel
theorem dX10_blindsOne_12 : decode cX10_blindsOne 12 = .ok (.bipush 12, 2) := by decide +kernel
theorem dX10_blindsOne_14 : decode cX10_blindsOne 14 = .ok (.invokestatic 217, 3) := by decide +kernel
theorem dX10_blindsOne_17 : decode cX10_blindsOne 17 = .ok (.aload_n 0, 1) := by decide +kernel
theorem dX10_blindsOne_18 : decode cX10_blindsOne 18 = .ok (.getfield 437, 3) := by decide +kernel
theorem dX10_blindsOne_21 : decode cX10_blindsOne 21 = .ok (.invokestatic 622, 3) := by decide +kernel
theorem dX10_blindsOne_24 : decode cX10_blindsOne 24 = .ok (.ifCond .ne 5, 3) := by decide +kernel
theorem dX10_blindsOne_27 : decode cX10_blindsOne 27 = .ok (.iconst 0, 1) := by decide +kernel
theorem dX10_blindsOne_28 : decode cX10_blindsOne 28 = .ok (.ireturn, 1) := by decide +kernel
theorem dX10_blindsOne_29 : decode cX10_blindsOne 29 = .ok (.aload_n 0, 1) := by decide +kernel
theorem dX10_blindsOne_30 : decode cX10_blindsOne 30 = .ok (.getfield 437, 3) := by decide +kernel
theorem dX10_blindsOne_33 : decode cX10_blindsOne 33 = .ok (.aload_n 0, 1) := by decide +kernel
theorem dX10_blindsOne_34 : decode cX10_blindsOne 34 = .ok (.getfield 525, 3) := by decide +kernel
theorem dX10_blindsOne_37 : decode cX10_blindsOne 37 = .ok (.aload_n 0, 1) := by decide +kernel
theorem dX10_blindsOne_38 : decode cX10_blindsOne 38 = .ok (.getfield 640, 3) := by decide +kernel
theorem dX10_blindsOne_41 : decode cX10_blindsOne 41 = .ok (.aaload, 1) := by decide +kernel
theorem dX10_blindsOne_42 : decode cX10_blindsOne 42 = .ok (.bipush 12, 2) := by decide +kernel
theorem dX10_blindsOne_44 : decode cX10_blindsOne 44 = .ok (.invokestatic 91, 3) := by decide +kernel
theorem dX10_blindsOne_47 : decode cX10_blindsOne 47 = .ok (.aload_n 0, 1) := by decide +kernel
theorem dX10_blindsOne_48 : decode cX10_blindsOne 48 = .ok (.aload_n 0, 1) := by decide +kernel
theorem dX10_blindsOne_49 : decode cX10_blindsOne 49 = .ok (.getfield 522, 3) := by decide +kernel
theorem dX10_blindsOne_52 : decode cX10_blindsOne 52 = .ok (.iload_n 1, 1) := by decide +kernel
theorem dX10_blindsOne_53 : decode cX10_blindsOne 53 = .ok (.bipush 98, 2) := by decide +kernel
theorem dX10_blindsOne_55 : decode cX10_blindsOne 55 = .ok (.aload_n 0, 1) := by decide +kernel
theorem dX10_blindsOne_56 : decode cX10_blindsOne 56 = .ok (.getfield 564, 3) := by decide +kernel
theorem dX10_blindsOne_59 : decode cX10_blindsOne 59 = .ok (.invokevirtual 650, 3) := by decide +kernel
theorem dX10_blindsOne_62 : decode cX10_blindsOne 62 = .ok (.aload_n 0, 1) := by decide +kernel
theorem dX10_blindsOne_63 : decode cX10_blindsOne 63 = .ok (.getfield 564, 3) := by decide +kernel
theorem dX10_blindsOne_66 : decode cX10_blindsOne 66 = .ok (.getfield 136, 3) := by decide +kernel
theorem dX10_blindsOne_69 : decode cX10_blindsOne 69 = .ok (.ifCond .eq 5, 3) := by decide +kernel
theorem dX10_blindsOne_72 : decode cX10_blindsOne 72 = .ok (.iconst 0, 1) := by decide +kernel
theorem dX10_blindsOne_73 : decode cX10_blindsOne 73 = .ok (.ireturn, 1) := by decide +kernel
theorem dX10_blindsOne_74 : decode cX10_blindsOne 74 = .ok (.aload_n 0, 1) := by decide +kernel
theorem dX10_blindsOne_75 : decode cX10_blindsOne 75 = .ok (.aload_n 0, 1) := by decide +kernel
theorem dX10_blindsOne_76 : decode cX10_blindsOne 76 = .ok (.getfield 525, 3) := by decide +kernel
theorem dX10_blindsOne_79 : decode cX10_blindsOne 79 = .ok (.aload_n 0, 1) := by decide +kernel
theorem dX10_blindsOne_80 : decode cX10_blindsOne 80 = .ok (.getfield 640, 3) := by decide +kernel
theorem dX10_blindsOne_83 : decode cX10_blindsOne 83 = .ok (.aaload, 1) := by decide +kernel
theorem dX10_blindsOne_84 : decode cX10_blindsOne 84 = .ok (.aload_n 0, 1) := by decide +kernel
theorem dX10_blindsOne_85 : decode cX10_blindsOne 85 = .ok (.getfield 564, 3) := by decide +kernel
theorem dX10_blindsOne_88 : decode cX10_blindsOne 88 = .ok (.aload_n 0, 1) := by decide +kernel
theorem dX10_blindsOne_89 : decode cX10_blindsOne 89 = .ok (.getfield 564, 3) := by decide +kernel
theorem dX10_blindsOne_92 : decode cX10_blindsOne 92 = .ok (.invokevirtual 446, 3) := by decide +kernel
theorem dX10_blindsOne_95 : decode cX10_blindsOne 95 = .ok (.aload_n 0, 1) := by decide +kernel
theorem dX10_blindsOne_96 : decode cX10_blindsOne 96 = .ok (.getfield 564, 3) := by decide +kernel
theorem dX10_blindsOne_99 : decode cX10_blindsOne 99 = .ok (.getfield 136, 3) := by decide +kernel
theorem dX10_blindsOne_102 : decode cX10_blindsOne 102 = .ok (.ifCond .ne 7, 3) := by decide +kernel
theorem dX10_blindsOne_105 : decode cX10_blindsOne 105 = .ok (.iconst 1, 1) := by decide +kernel
theorem dX10_blindsOne_106 : decode cX10_blindsOne 106 = .ok (.goto 4, 3) := by decide +kernel
theorem dX10_blindsOne_109 : decode cX10_blindsOne 109 = .ok (.iconst 0, 1) := by decide +kernel
theorem dX10_blindsOne_110 : decode cX10_blindsOne 110 = .ok (.ireturn, 1) := by decide +kernel
abbrev cX10_toPoint : ByteArray := prog_15_method_53_code
def yX10_toPoint : MethodName := ⟨RX10, "toPoint", "([BIILVeilMintModel$Spot;)V"⟩
theorem dX10_toPoint_0 : decode cX10_toPoint 0 = .ok (.iconst 0, 1) := by decide +kernel
theorem dX10_toPoint_1 : decode cX10_toPoint 1 = .ok (.istore 5, 2) := by decide +kernel
theorem dX10_toPoint_3 : decode cX10_toPoint 3 = .ok (.iload 5, 2) := by decide +kernel
theorem dX10_toPoint_5 : decode cX10_toPoint 5 = .ok (.iload_n 3, 1) := by decide +kernel
theorem dX10_toPoint_6 : decode cX10_toPoint 6 = .ok (.if_icmp .ge 22, 3) := by decide +kernel
theorem dX10_toPoint_9 : decode cX10_toPoint 9 = .ok (.aload_n 0, 1) := by decide +kernel
theorem dX10_toPoint_10 : decode cX10_toPoint 10 = .ok (.getfield 328, 3) := by decide +kernel
theorem dX10_toPoint_13 : decode cX10_toPoint 13 = .ok (.iload 5, 2) := by decide +kernel
theorem dX10_toPoint_15 : decode cX10_toPoint 15 = .ok (.aload_n 1, 1) := by decide +kernel
theorem dX10_toPoint_16 : decode cX10_toPoint 16 = .ok (.iload_n 2, 1) := by decide +kernel
theorem dX10_toPoint_17 : decode cX10_toPoint 17 = .ok (.iload 5, 2) := by decide +kernel
theorem dX10_toPoint_19 : decode cX10_toPoint 19 = .ok (.iadd, 1) := by decide +kernel
theorem dX10_toPoint_20 : decode cX10_toPoint 20 = .ok (.baload, 1) := by decide +kernel
theorem dX10_toPoint_21 : decode cX10_toPoint 21 = .ok (.bastore, 1) := by decide +kernel
theorem dX10_toPoint_22 : decode cX10_toPoint 22 = .ok (.iinc 5 1, 3) := by decide +kernel
theorem dX10_toPoint_25 : decode cX10_toPoint 25 = .ok (.goto (-22), 3) := by decide +kernel
theorem dX10_toPoint_28 : decode cX10_toPoint 28 = .ok (.aload_n 0, 1) := by decide +kernel
theorem dX10_toPoint_29 : decode cX10_toPoint 29 = .ok (.iload_n 3, 1) := by decide +kernel
theorem dX10_toPoint_30 : decode cX10_toPoint 30 = .ok (.putfield 331, 3) := by decide +kernel
theorem dX10_toPoint_33 : decode cX10_toPoint 33 = .ok (.aload_n 0, 1) := by decide +kernel
theorem dX10_toPoint_34 : decode cX10_toPoint 34 = .ok (.ldc_w 383, 3) := by decide +kernel
theorem dX10_toPoint_37 : decode cX10_toPoint 37 = .ok (.invokevirtual 354, 3) := by decide +kernel
theorem dX10_toPoint_40 : decode cX10_toPoint 40 = .ok (.aload_n 0, 1) := by decide +kernel
theorem dX10_toPoint_41 : decode cX10_toPoint 41 = .ok (.sipush 144, 3) := by decide +kernel
theorem dX10_toPoint_44 : decode cX10_toPoint 44 = .ok (.invokevirtual 357, 3) := by decide +kernel
theorem dX10_toPoint_47 : decode cX10_toPoint 47 = .ok (.aload_n 0, 1) := by decide +kernel
theorem dX10_toPoint_48 : decode cX10_toPoint 48 = .ok (.aload_n 0, 1) := by decide +kernel
theorem dX10_toPoint_49 : decode cX10_toPoint 49 = .ok (.getfield 61, 3) := by decide +kernel
theorem dX10_toPoint_52 : decode cX10_toPoint 52 = .ok (.iconst 0, 1) := by decide +kernel
theorem dX10_toPoint_53 : decode cX10_toPoint 53 = .ok (.aload_n 0, 1) := by decide +kernel
theorem dX10_toPoint_54 : decode cX10_toPoint 54 = .ok (.getfield 385, 3) := by decide +kernel
theorem dX10_toPoint_57 : decode cX10_toPoint 57 = .ok (.invokevirtual 363, 3) := by decide +kernel
theorem dX10_toPoint_60 : decode cX10_toPoint 60 = .ok (.aload_n 0, 1) := by decide +kernel
theorem dX10_toPoint_61 : decode cX10_toPoint 61 = .ok (.aload_n 0, 1) := by decide +kernel
theorem dX10_toPoint_62 : decode cX10_toPoint 62 = .ok (.getfield 61, 3) := by decide +kernel
theorem dX10_toPoint_65 : decode cX10_toPoint 65 = .ok (.bipush 72, 2) := by decide +kernel
theorem dX10_toPoint_67 : decode cX10_toPoint 67 = .ok (.aload_n 0, 1) := by decide +kernel
theorem dX10_toPoint_68 : decode cX10_toPoint 68 = .ok (.getfield 388, 3) := by decide +kernel
theorem dX10_toPoint_71 : decode cX10_toPoint 71 = .ok (.invokevirtual 363, 3) := by decide +kernel
theorem dX10_toPoint_74 : decode cX10_toPoint 74 = .ok (.aload_n 0, 1) := by decide +kernel
theorem dX10_toPoint_75 : decode cX10_toPoint 75 = .ok (.aload_n 0, 1) := by decide +kernel
theorem dX10_toPoint_76 : decode cX10_toPoint 76 = .ok (.getfield 385, 3) := by decide +kernel
theorem dX10_toPoint_79 : decode cX10_toPoint 79 = .ok (.aload_n 0, 1) := by decide +kernel
theorem dX10_toPoint_80 : decode cX10_toPoint 80 = .ok (.getfield 391, 3) := by decide +kernel
theorem dX10_toPoint_83 : decode cX10_toPoint 83 = .ok (.invokevirtual 394, 3) := by decide +kernel
theorem dX10_toPoint_86 : decode cX10_toPoint 86 = .ok (.aload_n 0, 1) := by decide +kernel
theorem dX10_toPoint_87 : decode cX10_toPoint 87 = .ok (.aload_n 0, 1) := by decide +kernel
theorem dX10_toPoint_88 : decode cX10_toPoint 88 = .ok (.getfield 388, 3) := by decide +kernel
theorem dX10_toPoint_91 : decode cX10_toPoint 91 = .ok (.aload 4, 2) := by decide +kernel
theorem dX10_toPoint_93 : decode cX10_toPoint 93 = .ok (.invokevirtual 394, 3) := by decide +kernel
theorem dX10_toPoint_96 : decode cX10_toPoint 96 = .ok (.aload_n 0, 1) := by decide +kernel
theorem dX10_toPoint_97 : decode cX10_toPoint 97 = .ok (.aload_n 0, 1) := by decide +kernel
theorem dX10_toPoint_98 : decode cX10_toPoint 98 = .ok (.getfield 391, 3) := by decide +kernel
theorem dX10_toPoint_101 : decode cX10_toPoint 101 = .ok (.aload 4, 2) := by decide +kernel
theorem dX10_toPoint_103 : decode cX10_toPoint 103 = .ok (.aload 4, 2) := by decide +kernel
theorem dX10_toPoint_105 : decode cX10_toPoint 105 = .ok (.invokevirtual 398, 3) := by decide +kernel
theorem dX10_toPoint_108 : decode cX10_toPoint 108 = .ok (.return_, 1) := by decide +kernel
abbrev cX10_tags : ByteArray := prog_15_method_47_code
def yX10_tags : MethodName := ⟨RX10, "tags", "(Ljava/lang/String;)V"⟩
theorem dX10_tags_0 : decode cX10_tags 0 = .ok (.aload_n 0, 1) := by decide +kernel
theorem dX10_tags_1 : decode cX10_tags 1 = .ok (.iconst 0, 1) := by decide +kernel
theorem dX10_tags_2 : decode cX10_tags 2 = .ok (.putfield 243, 3) := by decide +kernel
theorem dX10_tags_5 : decode cX10_tags 5 = .ok (.aload_n 0, 1) := by decide +kernel
theorem dX10_tags_6 : decode cX10_tags 6 = .ok (.aload_n 1, 1) := by decide +kernel
theorem dX10_tags_7 : decode cX10_tags 7 = .ok (.invokevirtual 262, 3) := by decide +kernel
theorem dX10_tags_10 : decode cX10_tags 10 = .ok (.aload_n 0, 1) := by decide +kernel
theorem dX10_tags_11 : decode cX10_tags 11 = .ok (.invokevirtual 316, 3) := by decide +kernel
theorem dX10_tags_14 : decode cX10_tags 14 = .ok (.iconst 0, 1) := by decide +kernel
theorem dX10_tags_15 : decode cX10_tags 15 = .ok (.istore_n 2, 1) := by decide +kernel
theorem dX10_tags_16 : decode cX10_tags 16 = .ok (.iload_n 2, 1) := by decide +kernel
theorem dX10_tags_17 : decode cX10_tags 17 = .ok (.aload_n 0, 1) := by decide +kernel
theorem dX10_tags_18 : decode cX10_tags 18 = .ok (.getfield 243, 3) := by decide +kernel
theorem dX10_tags_21 : decode cX10_tags 21 = .ok (.if_icmp .ge 21, 3) := by decide +kernel
theorem dX10_tags_24 : decode cX10_tags 24 = .ok (.aload_n 0, 1) := by decide +kernel
theorem dX10_tags_25 : decode cX10_tags 25 = .ok (.getfield 319, 3) := by decide +kernel
theorem dX10_tags_28 : decode cX10_tags 28 = .ok (.iload_n 2, 1) := by decide +kernel
theorem dX10_tags_29 : decode cX10_tags 29 = .ok (.aload_n 0, 1) := by decide +kernel
theorem dX10_tags_30 : decode cX10_tags 30 = .ok (.getfield 239, 3) := by decide +kernel
theorem dX10_tags_33 : decode cX10_tags 33 = .ok (.iload_n 2, 1) := by decide +kernel
theorem dX10_tags_34 : decode cX10_tags 34 = .ok (.baload, 1) := by decide +kernel
theorem dX10_tags_35 : decode cX10_tags 35 = .ok (.bastore, 1) := by decide +kernel
theorem dX10_tags_36 : decode cX10_tags 36 = .ok (.iinc 2 1, 3) := by decide +kernel
theorem dX10_tags_39 : decode cX10_tags 39 = .ok (.goto (-23), 3) := by decide +kernel
theorem dX10_tags_42 : decode cX10_tags 42 = .ok (.aload_n 0, 1) := by decide +kernel
theorem dX10_tags_43 : decode cX10_tags 43 = .ok (.aload_n 0, 1) := by decide +kernel
theorem dX10_tags_44 : decode cX10_tags 44 = .ok (.getfield 243, 3) := by decide +kernel
theorem dX10_tags_47 : decode cX10_tags 47 = .ok (.putfield 322, 3) := by decide +kernel
theorem dX10_tags_50 : decode cX10_tags 50 = .ok (.aload_n 0, 1) := by decide +kernel
theorem dX10_tags_51 : decode cX10_tags 51 = .ok (.iconst 0, 1) := by decide +kernel
theorem dX10_tags_52 : decode cX10_tags 52 = .ok (.putfield 243, 3) := by decide +kernel
theorem dX10_tags_55 : decode cX10_tags 55 = .ok (.return_, 1) := by decide +kernel
abbrev cX10_word : ByteArray := prog_15_method_38_code
def yX10_word : MethodName := ⟨RX10, "word", "(Ljava/lang/String;)V"⟩
theorem dX10_word_0 : decode cX10_word 0 = .ok (.iconst 0, 1) := by decide +kernel
theorem dX10_word_1 : decode cX10_word 1 = .ok (.istore_n 2, 1) := by decide +kernel
theorem dX10_word_2 : decode cX10_word 2 = .ok (.iload_n 2, 1) := by decide +kernel
theorem dX10_word_3 : decode cX10_word 3 = .ok (.aload_n 1, 1) := by decide +kernel
theorem dX10_word_4 : decode cX10_word 4 = .ok (.invokevirtual 250, 3) := by decide +kernel
theorem dX10_word_7 : decode cX10_word 7 = .ok (.if_icmp .ge 18, 3) := by decide +kernel
theorem dX10_word_10 : decode cX10_word 10 = .ok (.aload_n 0, 1) := by decide +kernel
theorem dX10_word_11 : decode cX10_word 11 = .ok (.aload_n 1, 1) := by decide +kernel
theorem dX10_word_12 : decode cX10_word 12 = .ok (.iload_n 2, 1) := by decide +kernel
theorem dX10_word_13 : decode cX10_word 13 = .ok (.invokevirtual 256, 3) := by decide +kernel
theorem dX10_word_16 : decode cX10_word 16 = .ok (.invokevirtual 246, 3) := by decide +kernel
theorem dX10_word_19 : decode cX10_word 19 = .ok (.iinc 2 1, 3) := by decide +kernel
theorem dX10_word_22 : decode cX10_word 22 = .ok (.goto (-20), 3) := by decide +kernel
theorem dX10_word_25 : decode cX10_word 25 = .ok (.return_, 1) := by decide +kernel
abbrev cX10_context : ByteArray := prog_15_method_39_code
def yX10_context : MethodName := ⟨RX10, "context", "()V"⟩
theorem dX10_context_0 : decode cX10_context 0 = .ok (.aload_n 0, 1) := by decide +kernel
theorem dX10_context_1 : decode cX10_context 1 = .ok (.ldc_w 260, 3) := by decide +kernel
theorem dX10_context_4 : decode cX10_context 4 = .ok (.invokevirtual 262, 3) := by decide +kernel
theorem dX10_context_7 : decode cX10_context 7 = .ok (.aload_n 0, 1) := by decide +kernel
theorem dX10_context_8 : decode cX10_context 8 = .ok (.iconst 1, 1) := by decide +kernel
theorem dX10_context_9 : decode cX10_context 9 = .ok (.invokevirtual 246, 3) := by decide +kernel
theorem dX10_context_12 : decode cX10_context 12 = .ok (.aload_n 0, 1) := by decide +kernel
theorem dX10_context_13 : decode cX10_context 13 = .ok (.ldc_w 266, 3) := by decide +kernel
theorem dX10_context_16 : decode cX10_context 16 = .ok (.invokevirtual 262, 3) := by decide +kernel
theorem dX10_context_19 : decode cX10_context 19 = .ok (.return_, 1) := by decide +kernel
abbrev cX10_expands : ByteArray := prog_15_method_49_code
def yX10_expands : MethodName := ⟨RX10, "expands", "(I)V"⟩
theorem dX10_expands_0 : decode cX10_expands 0 = .ok (.iconst 0, 1) := by decide +kernel
theorem dX10_expands_1 : decode cX10_expands 1 = .ok (.istore_n 2, 1) := by decide +kernel
theorem dX10_expands_2 : decode cX10_expands 2 = .ok (.iload_n 2, 1) := by decide +kernel
theorem dX10_expands_3 : decode cX10_expands 3 = .ok (.sipush 128, 3) := by decide +kernel
theorem dX10_expands_6 : decode cX10_expands 6 = .ok (.if_icmp .ge 14, 3) := by decide +kernel
theorem dX10_expands_9 : decode cX10_expands 9 = .ok (.aload_n 0, 1) := by decide +kernel
theorem dX10_expands_10 : decode cX10_expands 10 = .ok (.iconst 0, 1) := by decide +kernel
theorem dX10_expands_11 : decode cX10_expands 11 = .ok (.invokevirtual 246, 3) := by decide +kernel
theorem dX10_expands_14 : decode cX10_expands 14 = .ok (.iinc 2 1, 3) := by decide +kernel
theorem dX10_expands_17 : decode cX10_expands 17 = .ok (.goto (-15), 3) := by decide +kernel
theorem dX10_expands_20 : decode cX10_expands 20 = .ok (.aload_n 0, 1) := by decide +kernel
theorem dX10_expands_21 : decode cX10_expands 21 = .ok (.aload_n 0, 1) := by decide +kernel
theorem dX10_expands_22 : decode cX10_expands 22 = .ok (.getfield 328, 3) := by decide +kernel
theorem dX10_expands_25 : decode cX10_expands 25 = .ok (.iconst 0, 1) := by decide +kernel
theorem dX10_expands_26 : decode cX10_expands 26 = .ok (.aload_n 0, 1) := by decide +kernel
theorem dX10_expands_27 : decode cX10_expands 27 = .ok (.getfield 331, 3) := by decide +kernel
theorem dX10_expands_30 : decode cX10_expands 30 = .ok (.invokevirtual 325, 3) := by decide +kernel
theorem dX10_expands_33 : decode cX10_expands 33 = .ok (.aload_n 0, 1) := by decide +kernel
theorem dX10_expands_34 : decode cX10_expands 34 = .ok (.iload_n 1, 1) := by decide +kernel
theorem dX10_expands_35 : decode cX10_expands 35 = .ok (.invokevirtual 334, 3) := by decide +kernel
theorem dX10_expands_38 : decode cX10_expands 38 = .ok (.aload_n 0, 1) := by decide +kernel
theorem dX10_expands_39 : decode cX10_expands 39 = .ok (.iconst 0, 1) := by decide +kernel
theorem dX10_expands_40 : decode cX10_expands 40 = .ok (.invokevirtual 246, 3) := by decide +kernel
theorem dX10_expands_43 : decode cX10_expands 43 = .ok (.aload_n 0, 1) := by decide +kernel
theorem dX10_expands_44 : decode cX10_expands 44 = .ok (.invokevirtual 337, 3) := by decide +kernel
theorem dX10_expands_47 : decode cX10_expands 47 = .ok (.aload_n 0, 1) := by decide +kernel
theorem dX10_expands_48 : decode cX10_expands 48 = .ok (.invokevirtual 340, 3) := by decide +kernel
theorem dX10_expands_51 : decode cX10_expands 51 = .ok (.iconst 0, 1) := by decide +kernel
theorem dX10_expands_52 : decode cX10_expands 52 = .ok (.istore_n 2, 1) := by decide +kernel
theorem dX10_expands_53 : decode cX10_expands 53 = .ok (.iload_n 2, 1) := by decide +kernel
theorem dX10_expands_54 : decode cX10_expands 54 = .ok (.bipush 48, 2) := by decide +kernel
theorem dX10_expands_56 : decode cX10_expands 56 = .ok (.if_icmp .ge 28, 3) := by decide +kernel
theorem dX10_expands_59 : decode cX10_expands 59 = .ok (.aload_n 0, 1) := by decide +kernel
theorem dX10_expands_60 : decode cX10_expands 60 = .ok (.getfield 343, 3) := by decide +kernel
theorem dX10_expands_63 : decode cX10_expands 63 = .ok (.iload_n 2, 1) := by decide +kernel
theorem dX10_expands_64 : decode cX10_expands 64 = .ok (.aload_n 0, 1) := by decide +kernel
theorem dX10_expands_65 : decode cX10_expands 65 = .ok (.getfield 283, 3) := by decide +kernel
theorem dX10_expands_68 : decode cX10_expands 68 = .ok (.iload_n 2, 1) := by decide +kernel
theorem dX10_expands_69 : decode cX10_expands 69 = .ok (.baload, 1) := by decide +kernel
theorem dX10_expands_70 : decode cX10_expands 70 = .ok (.bastore, 1) := by decide +kernel
theorem dX10_expands_71 : decode cX10_expands 71 = .ok (.aload_n 0, 1) := by decide +kernel
theorem dX10_expands_72 : decode cX10_expands 72 = .ok (.getfield 346, 3) := by decide +kernel
theorem dX10_expands_75 : decode cX10_expands 75 = .ok (.iload_n 2, 1) := by decide +kernel
theorem dX10_expands_76 : decode cX10_expands 76 = .ok (.iconst 0, 1) := by decide +kernel
theorem dX10_expands_77 : decode cX10_expands 77 = .ok (.bastore, 1) := by decide +kernel
theorem dX10_expands_78 : decode cX10_expands 78 = .ok (.iinc 2 1, 3) := by decide +kernel
theorem dX10_expands_81 : decode cX10_expands 81 = .ok (.goto (-28), 3) := by decide +kernel
theorem dX10_expands_84 : decode cX10_expands 84 = .ok (.iconst 1, 1) := by decide +kernel
theorem dX10_expands_85 : decode cX10_expands 85 = .ok (.istore_n 2, 1) := by decide +kernel
theorem dX10_expands_86 : decode cX10_expands 86 = .ok (.bipush 48, 2) := by decide +kernel
theorem dX10_expands_88 : decode cX10_expands 88 = .ok (.iload_n 2, 1) := by decide +kernel
theorem dX10_expands_89 : decode cX10_expands 89 = .ok (.iconst 1, 1) := by decide +kernel
theorem dX10_expands_90 : decode cX10_expands 90 = .ok (.isub, 1) := by decide +kernel
theorem dX10_expands_91 : decode cX10_expands 91 = .ok (.imul, 1) := by decide +kernel
theorem dX10_expands_92 : decode cX10_expands 92 = .ok (.iload_n 1, 1) := by decide +kernel
theorem dX10_expands_93 : decode cX10_expands 93 = .ok (.if_icmp .ge 110, 3) := by decide +kernel
theorem dX10_expands_96 : decode cX10_expands 96 = .ok (.iconst 0, 1) := by decide +kernel
theorem dX10_expands_97 : decode cX10_expands 97 = .ok (.istore_n 3, 1) := by decide +kernel
theorem dX10_expands_98 : decode cX10_expands 98 = .ok (.iload_n 3, 1) := by decide +kernel
theorem dX10_expands_99 : decode cX10_expands 99 = .ok (.bipush 48, 2) := by decide +kernel
theorem dX10_expands_101 : decode cX10_expands 101 = .ok (.if_icmp .ge 26, 3) := by decide +kernel
theorem dX10_expands_104 : decode cX10_expands 104 = .ok (.aload_n 0, 1) := by decide +kernel
theorem dX10_expands_105 : decode cX10_expands 105 = .ok (.aload_n 0, 1) := by decide +kernel
theorem dX10_expands_106 : decode cX10_expands 106 = .ok (.getfield 343, 3) := by decide +kernel
theorem dX10_expands_109 : decode cX10_expands 109 = .ok (.iload_n 3, 1) := by decide +kernel
theorem dX10_expands_110 : decode cX10_expands 110 = .ok (.baload, 1) := by decide +kernel
theorem dX10_expands_111 : decode cX10_expands 111 = .ok (.aload_n 0, 1) := by decide +kernel
theorem dX10_expands_112 : decode cX10_expands 112 = .ok (.getfield 346, 3) := by decide +kernel
theorem dX10_expands_115 : decode cX10_expands 115 = .ok (.iload_n 3, 1) := by decide +kernel
theorem dX10_expands_116 : decode cX10_expands 116 = .ok (.baload, 1) := by decide +kernel
theorem dX10_expands_117 : decode cX10_expands 117 = .ok (.ixor, 1) := by decide +kernel
theorem dX10_expands_118 : decode cX10_expands 118 = .ok (.invokevirtual 246, 3) := by decide +kernel
theorem dX10_expands_121 : decode cX10_expands 121 = .ok (.iinc 3 1, 3) := by decide +kernel
theorem dX10_expands_124 : decode cX10_expands 124 = .ok (.goto (-26), 3) := by decide +kernel
theorem dX10_expands_127 : decode cX10_expands 127 = .ok (.aload_n 0, 1) := by decide +kernel
theorem dX10_expands_128 : decode cX10_expands 128 = .ok (.iload_n 2, 1) := by decide +kernel
theorem dX10_expands_129 : decode cX10_expands 129 = .ok (.invokevirtual 246, 3) := by decide +kernel
theorem dX10_expands_132 : decode cX10_expands 132 = .ok (.aload_n 0, 1) := by decide +kernel
theorem dX10_expands_133 : decode cX10_expands 133 = .ok (.invokevirtual 337, 3) := by decide +kernel
theorem dX10_expands_136 : decode cX10_expands 136 = .ok (.aload_n 0, 1) := by decide +kernel
theorem dX10_expands_137 : decode cX10_expands 137 = .ok (.invokevirtual 340, 3) := by decide +kernel
theorem dX10_expands_140 : decode cX10_expands 140 = .ok (.iconst 0, 1) := by decide +kernel
theorem dX10_expands_141 : decode cX10_expands 141 = .ok (.istore_n 3, 1) := by decide +kernel
theorem dX10_expands_142 : decode cX10_expands 142 = .ok (.iload_n 3, 1) := by decide +kernel
theorem dX10_expands_143 : decode cX10_expands 143 = .ok (.bipush 48, 2) := by decide +kernel
theorem dX10_expands_145 : decode cX10_expands 145 = .ok (.if_icmp .ge 52, 3) := by decide +kernel
theorem dX10_expands_148 : decode cX10_expands 148 = .ok (.aload_n 0, 1) := by decide +kernel
theorem dX10_expands_149 : decode cX10_expands 149 = .ok (.getfield 346, 3) := by decide +kernel
theorem dX10_expands_152 : decode cX10_expands 152 = .ok (.iload_n 3, 1) := by decide +kernel
theorem dX10_expands_153 : decode cX10_expands 153 = .ok (.aload_n 0, 1) := by decide +kernel
theorem dX10_expands_154 : decode cX10_expands 154 = .ok (.getfield 283, 3) := by decide +kernel
theorem dX10_expands_157 : decode cX10_expands 157 = .ok (.iload_n 3, 1) := by decide +kernel
theorem dX10_expands_158 : decode cX10_expands 158 = .ok (.baload, 1) := by decide +kernel
theorem dX10_expands_159 : decode cX10_expands 159 = .ok (.bastore, 1) := by decide +kernel
theorem dX10_expands_160 : decode cX10_expands 160 = .ok (.bipush 48, 2) := by decide +kernel
theorem dX10_expands_162 : decode cX10_expands 162 = .ok (.iload_n 2, 1) := by decide +kernel
theorem dX10_expands_163 : decode cX10_expands 163 = .ok (.iconst 1, 1) := by decide +kernel
theorem dX10_expands_164 : decode cX10_expands 164 = .ok (.isub, 1) := by decide +kernel
theorem dX10_expands_165 : decode cX10_expands 165 = .ok (.imul, 1) := by decide +kernel
theorem dX10_expands_166 : decode cX10_expands 166 = .ok (.iload_n 3, 1) := by decide +kernel
theorem dX10_expands_167 : decode cX10_expands 167 = .ok (.iadd, 1) := by decide +kernel
theorem dX10_expands_168 : decode cX10_expands 168 = .ok (.iload_n 1, 1) := by decide +kernel
theorem dX10_expands_169 : decode cX10_expands 169 = .ok (.if_icmp .ge 22, 3) := by decide +kernel
theorem dX10_expands_172 : decode cX10_expands 172 = .ok (.aload_n 0, 1) := by decide +kernel
theorem dX10_expands_173 : decode cX10_expands 173 = .ok (.getfield 349, 3) := by decide +kernel
theorem dX10_expands_176 : decode cX10_expands 176 = .ok (.bipush 48, 2) := by decide +kernel
theorem dX10_expands_178 : decode cX10_expands 178 = .ok (.iload_n 2, 1) := by decide +kernel
theorem dX10_expands_179 : decode cX10_expands 179 = .ok (.iconst 1, 1) := by decide +kernel
theorem dX10_expands_180 : decode cX10_expands 180 = .ok (.isub, 1) := by decide +kernel
theorem dX10_expands_181 : decode cX10_expands 181 = .ok (.imul, 1) := by decide +kernel
theorem dX10_expands_182 : decode cX10_expands 182 = .ok (.iload_n 3, 1) := by decide +kernel
theorem dX10_expands_183 : decode cX10_expands 183 = .ok (.iadd, 1) := by decide +kernel
theorem dX10_expands_184 : decode cX10_expands 184 = .ok (.aload_n 0, 1) := by decide +kernel
theorem dX10_expands_185 : decode cX10_expands 185 = .ok (.getfield 283, 3) := by decide +kernel
theorem dX10_expands_188 : decode cX10_expands 188 = .ok (.iload_n 3, 1) := by decide +kernel
theorem dX10_expands_189 : decode cX10_expands 189 = .ok (.baload, 1) := by decide +kernel
theorem dX10_expands_190 : decode cX10_expands 190 = .ok (.bastore, 1) := by decide +kernel
theorem dX10_expands_191 : decode cX10_expands 191 = .ok (.iinc 3 1, 3) := by decide +kernel
theorem dX10_expands_194 : decode cX10_expands 194 = .ok (.goto (-52), 3) := by decide +kernel
theorem dX10_expands_197 : decode cX10_expands 197 = .ok (.iinc 2 1, 3) := by decide +kernel
theorem dX10_expands_200 : decode cX10_expands 200 = .ok (.goto (-114), 3) := by decide +kernel
theorem dX10_expands_203 : decode cX10_expands 203 = .ok (.return_, 1) := by decide +kernel
abbrev cX10_endsTag : ByteArray := prog_15_method_48_code
def yX10_endsTag : MethodName := ⟨RX10, "endsTag", "()V"⟩
theorem dX10_endsTag_0 : decode cX10_endsTag 0 = .ok (.aload_n 0, 1) := by decide +kernel
theorem dX10_endsTag_1 : decode cX10_endsTag 1 = .ok (.aload_n 0, 1) := by decide +kernel
theorem dX10_endsTag_2 : decode cX10_endsTag 2 = .ok (.getfield 319, 3) := by decide +kernel
theorem dX10_endsTag_5 : decode cX10_endsTag 5 = .ok (.iconst 0, 1) := by decide +kernel
theorem dX10_endsTag_6 : decode cX10_endsTag 6 = .ok (.aload_n 0, 1) := by decide +kernel
theorem dX10_endsTag_7 : decode cX10_endsTag 7 = .ok (.getfield 322, 3) := by decide +kernel
theorem dX10_endsTag_10 : decode cX10_endsTag 10 = .ok (.invokevirtual 325, 3) := by decide +kernel
theorem dX10_endsTag_13 : decode cX10_endsTag 13 = .ok (.aload_n 0, 1) := by decide +kernel
theorem dX10_endsTag_14 : decode cX10_endsTag 14 = .ok (.aload_n 0, 1) := by decide +kernel
theorem dX10_endsTag_15 : decode cX10_endsTag 15 = .ok (.getfield 322, 3) := by decide +kernel
theorem dX10_endsTag_18 : decode cX10_endsTag 18 = .ok (.invokevirtual 246, 3) := by decide +kernel
theorem dX10_endsTag_21 : decode cX10_endsTag 21 = .ok (.return_, 1) := by decide +kernel
abbrev cX10_h3 : ByteArray := prog_15_method_45_code
def yX10_h3 : MethodName := ⟨RX10, "h3", "()V"⟩
theorem dX10_h3_0 : decode cX10_h3 0 = .ok (.aload_n 0, 1) := by decide +kernel
theorem dX10_h3_1 : decode cX10_h3 1 = .ok (.sipush 128, 3) := by decide +kernel
theorem dX10_h3_4 : decode cX10_h3 4 = .ok (.bipush 16, 2) := by decide +kernel
theorem dX10_h3_6 : decode cX10_h3 6 = .ok (.invokevirtual 270, 3) := by decide +kernel
theorem dX10_h3_9 : decode cX10_h3 9 = .ok (.iconst 0, 1) := by decide +kernel
theorem dX10_h3_10 : decode cX10_h3 10 = .ok (.istore_n 1, 1) := by decide +kernel
theorem dX10_h3_11 : decode cX10_h3 11 = .ok (.iload_n 1, 1) := by decide +kernel
theorem dX10_h3_12 : decode cX10_h3 12 = .ok (.bipush 8, 2) := by decide +kernel
theorem dX10_h3_14 : decode cX10_h3 14 = .ok (.if_icmp .ge 20, 3) := by decide +kernel
theorem dX10_h3_17 : decode cX10_h3 17 = .ok (.aload_n 0, 1) := by decide +kernel
theorem dX10_h3_18 : decode cX10_h3 18 = .ok (.getfield 296, 3) := by decide +kernel
theorem dX10_h3_21 : decode cX10_h3 21 = .ok (.iload_n 1, 1) := by decide +kernel
theorem dX10_h3_22 : decode cX10_h3 22 = .ok (.getstatic 299, 3) := by decide +kernel
theorem dX10_h3_25 : decode cX10_h3 25 = .ok (.iload_n 1, 1) := by decide +kernel
theorem dX10_h3_26 : decode cX10_h3 26 = .ok (.laload, 1) := by decide +kernel
theorem dX10_h3_27 : decode cX10_h3 27 = .ok (.lastore, 1) := by decide +kernel
theorem dX10_h3_28 : decode cX10_h3 28 = .ok (.iinc 1 1, 3) := by decide +kernel
theorem dX10_h3_31 : decode cX10_h3 31 = .ok (.goto (-20), 3) := by decide +kernel
theorem dX10_h3_34 : decode cX10_h3 34 = .ok (.iconst 0, 1) := by decide +kernel
theorem dX10_h3_35 : decode cX10_h3 35 = .ok (.istore_n 1, 1) := by decide +kernel
theorem dX10_h3_36 : decode cX10_h3 36 = .ok (.iload_n 1, 1) := by decide +kernel
theorem dX10_h3_37 : decode cX10_h3 37 = .ok (.aload_n 0, 1) := by decide +kernel
theorem dX10_h3_38 : decode cX10_h3 38 = .ok (.getfield 243, 3) := by decide +kernel
theorem dX10_h3_41 : decode cX10_h3 41 = .ok (.if_icmp .ge 17, 3) := by decide +kernel
theorem dX10_h3_44 : decode cX10_h3 44 = .ok (.aload_n 0, 1) := by decide +kernel
theorem dX10_h3_45 : decode cX10_h3 45 = .ok (.iload_n 1, 1) := by decide +kernel
theorem dX10_h3_46 : decode cX10_h3 46 = .ok (.invokevirtual 302, 3) := by decide +kernel
theorem dX10_h3_49 : decode cX10_h3 49 = .ok (.iinc 1 128, 6) := by decide +kernel
theorem dX10_h3_55 : decode cX10_h3 55 = .ok (.goto (-19), 3) := by decide +kernel
theorem dX10_h3_58 : decode cX10_h3 58 = .ok (.iconst 0, 1) := by decide +kernel
theorem dX10_h3_59 : decode cX10_h3 59 = .ok (.istore_n 1, 1) := by decide +kernel
theorem dX10_h3_60 : decode cX10_h3 60 = .ok (.iload_n 1, 1) := by decide +kernel
theorem dX10_h3_61 : decode cX10_h3 61 = .ok (.bipush 48, 2) := by decide +kernel
theorem dX10_h3_63 : decode cX10_h3 63 = .ok (.if_icmp .ge 37, 3) := by decide +kernel
theorem dX10_h3_66 : decode cX10_h3 66 = .ok (.aload_n 0, 1) := by decide +kernel
theorem dX10_h3_67 : decode cX10_h3 67 = .ok (.getfield 283, 3) := by decide +kernel
theorem dX10_h3_70 : decode cX10_h3 70 = .ok (.iload_n 1, 1) := by decide +kernel
theorem dX10_h3_71 : decode cX10_h3 71 = .ok (.aload_n 0, 1) := by decide +kernel
theorem dX10_h3_72 : decode cX10_h3 72 = .ok (.getfield 296, 3) := by decide +kernel
theorem dX10_h3_75 : decode cX10_h3 75 = .ok (.iload_n 1, 1) := by decide +kernel
theorem dX10_h3_76 : decode cX10_h3 76 = .ok (.bipush 8, 2) := by decide +kernel
theorem dX10_h3_78 : decode cX10_h3 78 = .ok (.idiv, 1) := by decide +kernel
theorem dX10_h3_79 : decode cX10_h3 79 = .ok (.laload, 1) := by decide +kernel
theorem dX10_h3_80 : decode cX10_h3 80 = .ok (.bipush 56, 2) := by decide +kernel
theorem dX10_h3_82 : decode cX10_h3 82 = .ok (.bipush 8, 2) := by decide +kernel
theorem dX10_h3_84 : decode cX10_h3 84 = .ok (.iload_n 1, 1) := by decide +kernel
theorem dX10_h3_85 : decode cX10_h3 85 = .ok (.bipush 8, 2) := by decide +kernel
theorem dX10_h3_87 : decode cX10_h3 87 = .ok (.irem, 1) := by decide +kernel
theorem dX10_h3_88 : decode cX10_h3 88 = .ok (.imul, 1) := by decide +kernel
theorem dX10_h3_89 : decode cX10_h3 89 = .ok (.isub, 1) := by decide +kernel
theorem dX10_h3_90 : decode cX10_h3 90 = .ok (.lshr, 1) := by decide +kernel
theorem dX10_h3_91 : decode cX10_h3 91 = .ok (.l2i, 1) := by decide +kernel
theorem dX10_h3_92 : decode cX10_h3 92 = .ok (.i2b, 1) := by decide +kernel
theorem dX10_h3_93 : decode cX10_h3 93 = .ok (.bastore, 1) := by decide +kernel
theorem dX10_h3_94 : decode cX10_h3 94 = .ok (.iinc 1 1, 3) := by decide +kernel
theorem dX10_h3_97 : decode cX10_h3 97 = .ok (.goto (-37), 3) := by decide +kernel
theorem dX10_h3_100 : decode cX10_h3 100 = .ok (.aload_n 0, 1) := by decide +kernel
theorem dX10_h3_101 : decode cX10_h3 101 = .ok (.iconst 0, 1) := by decide +kernel
theorem dX10_h3_102 : decode cX10_h3 102 = .ok (.putfield 243, 3) := by decide +kernel
theorem dX10_h3_105 : decode cX10_h3 105 = .ok (.return_, 1) := by decide +kernel
abbrev cX10_wideBlock : ByteArray := prog_15_method_46_code
def yX10_wideBlock : MethodName := ⟨RX10, "wideBlock", "(I)V"⟩
theorem dX10_wideBlock_0 : decode cX10_wideBlock 0 = .ok (.iconst 0, 1) := by decide +kernel
theorem dX10_wideBlock_1 : decode cX10_wideBlock 1 = .ok (.istore_n 2, 1) := by decide +kernel
theorem dX10_wideBlock_2 : decode cX10_wideBlock 2 = .ok (.iload_n 2, 1) := by decide +kernel
theorem dX10_wideBlock_3 : decode cX10_wideBlock 3 = .ok (.bipush 80, 2) := by decide +kernel
theorem dX10_wideBlock_5 : decode cX10_wideBlock 5 = .ok (.if_icmp .ge 158, 3) := by decide +kernel
theorem dX10_wideBlock_8 : decode cX10_wideBlock 8 = .ok (.iload_n 2, 1) := by decide +kernel
theorem dX10_wideBlock_9 : decode cX10_wideBlock 9 = .ok (.bipush 16, 2) := by decide +kernel
theorem dX10_wideBlock_11 : decode cX10_wideBlock 11 = .ok (.if_icmp .ge 61, 3) := by decide +kernel
theorem dX10_wideBlock_14 : decode cX10_wideBlock 14 = .ok (.aload_n 0, 1) := by decide +kernel
theorem dX10_wideBlock_15 : decode cX10_wideBlock 15 = .ok (.getfield 305, 3) := by decide +kernel
theorem dX10_wideBlock_18 : decode cX10_wideBlock 18 = .ok (.iload_n 2, 1) := by decide +kernel
theorem dX10_wideBlock_19 : decode cX10_wideBlock 19 = .ok (.lconst 0, 1) := by decide +kernel
theorem dX10_wideBlock_20 : decode cX10_wideBlock 20 = .ok (.lastore, 1) := by decide +kernel
theorem dX10_wideBlock_21 : decode cX10_wideBlock 21 = .ok (.iconst 0, 1) := by decide +kernel
theorem dX10_wideBlock_22 : decode cX10_wideBlock 22 = .ok (.istore_n 3, 1) := by decide +kernel
theorem dX10_wideBlock_23 : decode cX10_wideBlock 23 = .ok (.iload_n 3, 1) := by decide +kernel
theorem dX10_wideBlock_24 : decode cX10_wideBlock 24 = .ok (.bipush 8, 2) := by decide +kernel
theorem dX10_wideBlock_26 : decode cX10_wideBlock 26 = .ok (.if_icmp .ge 43, 3) := by decide +kernel
theorem dX10_wideBlock_29 : decode cX10_wideBlock 29 = .ok (.aload_n 0, 1) := by decide +kernel
theorem dX10_wideBlock_30 : decode cX10_wideBlock 30 = .ok (.getfield 305, 3) := by decide +kernel
theorem dX10_wideBlock_33 : decode cX10_wideBlock 33 = .ok (.iload_n 2, 1) := by decide +kernel
theorem dX10_wideBlock_34 : decode cX10_wideBlock 34 = .ok (.aload_n 0, 1) := by decide +kernel
theorem dX10_wideBlock_35 : decode cX10_wideBlock 35 = .ok (.getfield 305, 3) := by decide +kernel
theorem dX10_wideBlock_38 : decode cX10_wideBlock 38 = .ok (.iload_n 2, 1) := by decide +kernel
theorem dX10_wideBlock_39 : decode cX10_wideBlock 39 = .ok (.laload, 1) := by decide +kernel
theorem dX10_wideBlock_40 : decode cX10_wideBlock 40 = .ok (.bipush 8, 2) := by decide +kernel
theorem dX10_wideBlock_42 : decode cX10_wideBlock 42 = .ok (.lshl, 1) := by decide +kernel
theorem dX10_wideBlock_43 : decode cX10_wideBlock 43 = .ok (.aload_n 0, 1) := by decide +kernel
theorem dX10_wideBlock_44 : decode cX10_wideBlock 44 = .ok (.getfield 239, 3) := by decide +kernel
theorem dX10_wideBlock_47 : decode cX10_wideBlock 47 = .ok (.iload_n 1, 1) := by decide +kernel
theorem dX10_wideBlock_48 : decode cX10_wideBlock 48 = .ok (.bipush 8, 2) := by decide +kernel
theorem dX10_wideBlock_50 : decode cX10_wideBlock 50 = .ok (.iload_n 2, 1) := by decide +kernel
theorem dX10_wideBlock_51 : decode cX10_wideBlock 51 = .ok (.imul, 1) := by decide +kernel
theorem dX10_wideBlock_52 : decode cX10_wideBlock 52 = .ok (.iadd, 1) := by decide +kernel
theorem dX10_wideBlock_53 : decode cX10_wideBlock 53 = .ok (.iload_n 3, 1) := by decide +kernel
theorem dX10_wideBlock_54 : decode cX10_wideBlock 54 = .ok (.iadd, 1) := by decide +kernel
theorem dX10_wideBlock_55 : decode cX10_wideBlock 55 = .ok (.baload, 1) := by decide +kernel
theorem dX10_wideBlock_56 : decode cX10_wideBlock 56 = .ok (.sipush 255, 3) := by decide +kernel
theorem dX10_wideBlock_59 : decode cX10_wideBlock 59 = .ok (.iand, 1) := by decide +kernel
theorem dX10_wideBlock_60 : decode cX10_wideBlock 60 = .ok (.i2l, 1) := by decide +kernel
theorem dX10_wideBlock_61 : decode cX10_wideBlock 61 = .ok (.lor, 1) := by decide +kernel
theorem dX10_wideBlock_62 : decode cX10_wideBlock 62 = .ok (.lastore, 1) := by decide +kernel
theorem dX10_wideBlock_63 : decode cX10_wideBlock 63 = .ok (.iinc 3 1, 3) := by decide +kernel
theorem dX10_wideBlock_66 : decode cX10_wideBlock 66 = .ok (.goto (-43), 3) := by decide +kernel
theorem dX10_wideBlock_69 : decode cX10_wideBlock 69 = .ok (.goto 88, 3) := by decide +kernel
theorem dX10_wideBlock_72 : decode cX10_wideBlock 72 = .ok (.aload_n 0, 1) := by decide +kernel
theorem dX10_wideBlock_73 : decode cX10_wideBlock 73 = .ok (.getfield 305, 3) := by decide +kernel
theorem dX10_wideBlock_76 : decode cX10_wideBlock 76 = .ok (.iload_n 2, 1) := by decide +kernel
theorem dX10_wideBlock_77 : decode cX10_wideBlock 77 = .ok (.bipush 15, 2) := by decide +kernel
theorem dX10_wideBlock_79 : decode cX10_wideBlock 79 = .ok (.isub, 1) := by decide +kernel
theorem dX10_wideBlock_80 : decode cX10_wideBlock 80 = .ok (.laload, 1) := by decide +kernel
theorem dX10_wideBlock_81 : decode cX10_wideBlock 81 = .ok (.lstore_n 3, 1) := by decide +kernel
theorem dX10_wideBlock_82 : decode cX10_wideBlock 82 = .ok (.aload_n 0, 1) := by decide +kernel
theorem dX10_wideBlock_83 : decode cX10_wideBlock 83 = .ok (.getfield 305, 3) := by decide +kernel
theorem dX10_wideBlock_86 : decode cX10_wideBlock 86 = .ok (.iload_n 2, 1) := by decide +kernel
theorem dX10_wideBlock_87 : decode cX10_wideBlock 87 = .ok (.iconst 2, 1) := by decide +kernel
theorem dX10_wideBlock_88 : decode cX10_wideBlock 88 = .ok (.isub, 1) := by decide +kernel
theorem dX10_wideBlock_89 : decode cX10_wideBlock 89 = .ok (.laload, 1) := by decide +kernel
theorem dX10_wideBlock_90 : decode cX10_wideBlock 90 = .ok (.lstore 5, 2) := by decide +kernel
theorem dX10_wideBlock_92 : decode cX10_wideBlock 92 = .ok (.aload_n 0, 1) := by decide +kernel
theorem dX10_wideBlock_93 : decode cX10_wideBlock 93 = .ok (.getfield 305, 3) := by decide +kernel
theorem dX10_wideBlock_96 : decode cX10_wideBlock 96 = .ok (.iload_n 2, 1) := by decide +kernel
theorem dX10_wideBlock_97 : decode cX10_wideBlock 97 = .ok (.aload_n 0, 1) := by decide +kernel
theorem dX10_wideBlock_98 : decode cX10_wideBlock 98 = .ok (.getfield 305, 3) := by decide +kernel
theorem dX10_wideBlock_101 : decode cX10_wideBlock 101 = .ok (.iload_n 2, 1) := by decide +kernel
theorem dX10_wideBlock_102 : decode cX10_wideBlock 102 = .ok (.bipush 16, 2) := by decide +kernel
theorem dX10_wideBlock_104 : decode cX10_wideBlock 104 = .ok (.isub, 1) := by decide +kernel
theorem dX10_wideBlock_105 : decode cX10_wideBlock 105 = .ok (.laload, 1) := by decide +kernel
theorem dX10_wideBlock_106 : decode cX10_wideBlock 106 = .ok (.aload_n 0, 1) := by decide +kernel
theorem dX10_wideBlock_107 : decode cX10_wideBlock 107 = .ok (.getfield 305, 3) := by decide +kernel
theorem dX10_wideBlock_110 : decode cX10_wideBlock 110 = .ok (.iload_n 2, 1) := by decide +kernel
theorem dX10_wideBlock_111 : decode cX10_wideBlock 111 = .ok (.bipush 7, 2) := by decide +kernel
theorem dX10_wideBlock_113 : decode cX10_wideBlock 113 = .ok (.isub, 1) := by decide +kernel
theorem dX10_wideBlock_114 : decode cX10_wideBlock 114 = .ok (.laload, 1) := by decide +kernel
theorem dX10_wideBlock_115 : decode cX10_wideBlock 115 = .ok (.ladd, 1) := by decide +kernel
theorem dX10_wideBlock_116 : decode cX10_wideBlock 116 = .ok (.lload_n 3, 1) := by decide +kernel
theorem dX10_wideBlock_117 : decode cX10_wideBlock 117 = .ok (.iconst 1, 1) := by decide +kernel
theorem dX10_wideBlock_118 : decode cX10_wideBlock 118 = .ok (.invokestatic 308, 3) := by decide +kernel
theorem dX10_wideBlock_121 : decode cX10_wideBlock 121 = .ok (.lload_n 3, 1) := by decide +kernel
theorem dX10_wideBlock_122 : decode cX10_wideBlock 122 = .ok (.bipush 8, 2) := by decide +kernel
theorem dX10_wideBlock_124 : decode cX10_wideBlock 124 = .ok (.invokestatic 308, 3) := by decide +kernel
theorem dX10_wideBlock_127 : decode cX10_wideBlock 127 = .ok (.lxor, 1) := by decide +kernel
theorem dX10_wideBlock_128 : decode cX10_wideBlock 128 = .ok (.lload_n 3, 1) := by decide +kernel
theorem dX10_wideBlock_129 : decode cX10_wideBlock 129 = .ok (.bipush 7, 2) := by decide +kernel
theorem dX10_wideBlock_131 : decode cX10_wideBlock 131 = .ok (.lushr, 1) := by decide +kernel
theorem dX10_wideBlock_132 : decode cX10_wideBlock 132 = .ok (.lxor, 1) := by decide +kernel
theorem dX10_wideBlock_133 : decode cX10_wideBlock 133 = .ok (.ladd, 1) := by decide +kernel
theorem dX10_wideBlock_134 : decode cX10_wideBlock 134 = .ok (.lload 5, 2) := by decide +kernel
theorem dX10_wideBlock_136 : decode cX10_wideBlock 136 = .ok (.bipush 19, 2) := by decide +kernel
theorem dX10_wideBlock_138 : decode cX10_wideBlock 138 = .ok (.invokestatic 308, 3) := by decide +kernel
theorem dX10_wideBlock_141 : decode cX10_wideBlock 141 = .ok (.lload 5, 2) := by decide +kernel
theorem dX10_wideBlock_143 : decode cX10_wideBlock 143 = .ok (.bipush 61, 2) := by decide +kernel
theorem dX10_wideBlock_145 : decode cX10_wideBlock 145 = .ok (.invokestatic 308, 3) := by decide +kernel
theorem dX10_wideBlock_148 : decode cX10_wideBlock 148 = .ok (.lxor, 1) := by decide +kernel
theorem dX10_wideBlock_149 : decode cX10_wideBlock 149 = .ok (.lload 5, 2) := by decide +kernel
theorem dX10_wideBlock_151 : decode cX10_wideBlock 151 = .ok (.bipush 6, 2) := by decide +kernel
theorem dX10_wideBlock_153 : decode cX10_wideBlock 153 = .ok (.lushr, 1) := by decide +kernel
theorem dX10_wideBlock_154 : decode cX10_wideBlock 154 = .ok (.lxor, 1) := by decide +kernel
theorem dX10_wideBlock_155 : decode cX10_wideBlock 155 = .ok (.ladd, 1) := by decide +kernel
theorem dX10_wideBlock_156 : decode cX10_wideBlock 156 = .ok (.lastore, 1) := by decide +kernel
theorem dX10_wideBlock_157 : decode cX10_wideBlock 157 = .ok (.iinc 2 1, 3) := by decide +kernel
theorem dX10_wideBlock_160 : decode cX10_wideBlock 160 = .ok (.goto (-158), 3) := by decide +kernel
theorem dX10_wideBlock_163 : decode cX10_wideBlock 163 = .ok (.aload_n 0, 1) := by decide +kernel
theorem dX10_wideBlock_164 : decode cX10_wideBlock 164 = .ok (.getfield 296, 3) := by decide +kernel
theorem dX10_wideBlock_167 : decode cX10_wideBlock 167 = .ok (.iconst 0, 1) := by decide +kernel
theorem dX10_wideBlock_168 : decode cX10_wideBlock 168 = .ok (.laload, 1) := by decide +kernel
theorem dX10_wideBlock_169 : decode cX10_wideBlock 169 = .ok (.lstore_n 2, 1) := by decide +kernel
theorem dX10_wideBlock_170 : decode cX10_wideBlock 170 = .ok (.aload_n 0, 1) := by decide +kernel
theorem dX10_wideBlock_171 : decode cX10_wideBlock 171 = .ok (.getfield 296, 3) := by decide +kernel
theorem dX10_wideBlock_174 : decode cX10_wideBlock 174 = .ok (.iconst 1, 1) := by decide +kernel
theorem dX10_wideBlock_175 : decode cX10_wideBlock 175 = .ok (.laload, 1) := by decide +kernel
theorem dX10_wideBlock_176 : decode cX10_wideBlock 176 = .ok (.lstore 4, 2) := by decide +kernel
theorem dX10_wideBlock_178 : decode cX10_wideBlock 178 = .ok (.aload_n 0, 1) := by decide +kernel
theorem dX10_wideBlock_179 : decode cX10_wideBlock 179 = .ok (.getfield 296, 3) := by decide +kernel
theorem dX10_wideBlock_182 : decode cX10_wideBlock 182 = .ok (.iconst 2, 1) := by decide +kernel
theorem dX10_wideBlock_183 : decode cX10_wideBlock 183 = .ok (.laload, 1) := by decide +kernel
theorem dX10_wideBlock_184 : decode cX10_wideBlock 184 = .ok (.lstore 6, 2) := by decide +kernel
theorem dX10_wideBlock_186 : decode cX10_wideBlock 186 = .ok (.aload_n 0, 1) := by decide +kernel
theorem dX10_wideBlock_187 : decode cX10_wideBlock 187 = .ok (.getfield 296, 3) := by decide +kernel
theorem dX10_wideBlock_190 : decode cX10_wideBlock 190 = .ok (.iconst 3, 1) := by decide +kernel
theorem dX10_wideBlock_191 : decode cX10_wideBlock 191 = .ok (.laload, 1) := by decide +kernel
theorem dX10_wideBlock_192 : decode cX10_wideBlock 192 = .ok (.lstore 8, 2) := by decide +kernel
theorem dX10_wideBlock_194 : decode cX10_wideBlock 194 = .ok (.aload_n 0, 1) := by decide +kernel
theorem dX10_wideBlock_195 : decode cX10_wideBlock 195 = .ok (.getfield 296, 3) := by decide +kernel
theorem dX10_wideBlock_198 : decode cX10_wideBlock 198 = .ok (.iconst 4, 1) := by decide +kernel
theorem dX10_wideBlock_199 : decode cX10_wideBlock 199 = .ok (.laload, 1) := by decide +kernel
theorem dX10_wideBlock_200 : decode cX10_wideBlock 200 = .ok (.lstore 10, 2) := by decide +kernel
theorem dX10_wideBlock_202 : decode cX10_wideBlock 202 = .ok (.aload_n 0, 1) := by decide +kernel
theorem dX10_wideBlock_203 : decode cX10_wideBlock 203 = .ok (.getfield 296, 3) := by decide +kernel
theorem dX10_wideBlock_206 : decode cX10_wideBlock 206 = .ok (.iconst 5, 1) := by decide +kernel
theorem dX10_wideBlock_207 : decode cX10_wideBlock 207 = .ok (.laload, 1) := by decide +kernel
theorem dX10_wideBlock_208 : decode cX10_wideBlock 208 = .ok (.lstore 12, 2) := by decide +kernel
theorem dX10_wideBlock_210 : decode cX10_wideBlock 210 = .ok (.aload_n 0, 1) := by decide +kernel
theorem dX10_wideBlock_211 : decode cX10_wideBlock 211 = .ok (.getfield 296, 3) := by decide +kernel
theorem dX10_wideBlock_214 : decode cX10_wideBlock 214 = .ok (.bipush 6, 2) := by decide +kernel
theorem dX10_wideBlock_216 : decode cX10_wideBlock 216 = .ok (.laload, 1) := by decide +kernel
theorem dX10_wideBlock_217 : decode cX10_wideBlock 217 = .ok (.lstore 14, 2) := by decide +kernel
theorem dX10_wideBlock_219 : decode cX10_wideBlock 219 = .ok (.aload_n 0, 1) := by decide +kernel
theorem dX10_wideBlock_220 : decode cX10_wideBlock 220 = .ok (.getfield 296, 3) := by decide +kernel
theorem dX10_wideBlock_223 : decode cX10_wideBlock 223 = .ok (.bipush 7, 2) := by decide +kernel
theorem dX10_wideBlock_225 : decode cX10_wideBlock 225 = .ok (.laload, 1) := by decide +kernel
theorem dX10_wideBlock_226 : decode cX10_wideBlock 226 = .ok (.lstore 16, 2) := by decide +kernel
theorem dX10_wideBlock_228 : decode cX10_wideBlock 228 = .ok (.iconst 0, 1) := by decide +kernel
theorem dX10_wideBlock_229 : decode cX10_wideBlock 229 = .ok (.istore 18, 2) := by decide +kernel
theorem dX10_wideBlock_231 : decode cX10_wideBlock 231 = .ok (.iload 18, 2) := by decide +kernel
theorem dX10_wideBlock_233 : decode cX10_wideBlock 233 = .ok (.bipush 80, 2) := by decide +kernel
theorem dX10_wideBlock_235 : decode cX10_wideBlock 235 = .ok (.if_icmp .ge 142, 3) := by decide +kernel
theorem dX10_wideBlock_238 : decode cX10_wideBlock 238 = .ok (.lload 16, 2) := by decide +kernel
theorem dX10_wideBlock_240 : decode cX10_wideBlock 240 = .ok (.lload 10, 2) := by decide +kernel
theorem dX10_wideBlock_242 : decode cX10_wideBlock 242 = .ok (.bipush 14, 2) := by decide +kernel
theorem dX10_wideBlock_244 : decode cX10_wideBlock 244 = .ok (.invokestatic 308, 3) := by decide +kernel
theorem dX10_wideBlock_247 : decode cX10_wideBlock 247 = .ok (.lload 10, 2) := by decide +kernel
theorem dX10_wideBlock_249 : decode cX10_wideBlock 249 = .ok (.bipush 18, 2) := by decide +kernel
theorem dX10_wideBlock_251 : decode cX10_wideBlock 251 = .ok (.invokestatic 308, 3) := by decide +kernel
theorem dX10_wideBlock_254 : decode cX10_wideBlock 254 = .ok (.lxor, 1) := by decide +kernel
theorem dX10_wideBlock_255 : decode cX10_wideBlock 255 = .ok (.lload 10, 2) := by decide +kernel
theorem dX10_wideBlock_257 : decode cX10_wideBlock 257 = .ok (.bipush 41, 2) := by decide +kernel
theorem dX10_wideBlock_259 : decode cX10_wideBlock 259 = .ok (.invokestatic 308, 3) := by decide +kernel
theorem dX10_wideBlock_262 : decode cX10_wideBlock 262 = .ok (.lxor, 1) := by decide +kernel
theorem dX10_wideBlock_263 : decode cX10_wideBlock 263 = .ok (.ladd, 1) := by decide +kernel
theorem dX10_wideBlock_264 : decode cX10_wideBlock 264 = .ok (.lload 10, 2) := by decide +kernel
theorem dX10_wideBlock_266 : decode cX10_wideBlock 266 = .ok (.lload 12, 2) := by decide +kernel
theorem dX10_wideBlock_268 : decode cX10_wideBlock 268 = .ok (.land, 1) := by decide +kernel
theorem dX10_wideBlock_269 : decode cX10_wideBlock 269 = .ok (.lload 10, 2) := by decide +kernel
theorem dX10_wideBlock_271 : decode cX10_wideBlock 271 = .ok (.ldc2_w 311, 3) := by decide +kernel
theorem dX10_wideBlock_274 : decode cX10_wideBlock 274 = .ok (.lxor, 1) := by decide +kernel
theorem dX10_wideBlock_275 : decode cX10_wideBlock 275 = .ok (.lload 14, 2) := by decide +kernel
theorem dX10_wideBlock_277 : decode cX10_wideBlock 277 = .ok (.land, 1) := by decide +kernel
theorem dX10_wideBlock_278 : decode cX10_wideBlock 278 = .ok (.lxor, 1) := by decide +kernel
theorem dX10_wideBlock_279 : decode cX10_wideBlock 279 = .ok (.ladd, 1) := by decide +kernel
theorem dX10_wideBlock_280 : decode cX10_wideBlock 280 = .ok (.getstatic 313, 3) := by decide +kernel
theorem dX10_wideBlock_283 : decode cX10_wideBlock 283 = .ok (.iload 18, 2) := by decide +kernel
theorem dX10_wideBlock_285 : decode cX10_wideBlock 285 = .ok (.laload, 1) := by decide +kernel
theorem dX10_wideBlock_286 : decode cX10_wideBlock 286 = .ok (.ladd, 1) := by decide +kernel
theorem dX10_wideBlock_287 : decode cX10_wideBlock 287 = .ok (.aload_n 0, 1) := by decide +kernel
theorem dX10_wideBlock_288 : decode cX10_wideBlock 288 = .ok (.getfield 305, 3) := by decide +kernel
theorem dX10_wideBlock_291 : decode cX10_wideBlock 291 = .ok (.iload 18, 2) := by decide +kernel
theorem dX10_wideBlock_293 : decode cX10_wideBlock 293 = .ok (.laload, 1) := by decide +kernel
theorem dX10_wideBlock_294 : decode cX10_wideBlock 294 = .ok (.ladd, 1) := by decide +kernel
theorem dX10_wideBlock_295 : decode cX10_wideBlock 295 = .ok (.lstore 19, 2) := by decide +kernel
theorem dX10_wideBlock_297 : decode cX10_wideBlock 297 = .ok (.lload_n 2, 1) := by decide +kernel
theorem dX10_wideBlock_298 : decode cX10_wideBlock 298 = .ok (.bipush 28, 2) := by decide +kernel
theorem dX10_wideBlock_300 : decode cX10_wideBlock 300 = .ok (.invokestatic 308, 3) := by decide +kernel
theorem dX10_wideBlock_303 : decode cX10_wideBlock 303 = .ok (.lload_n 2, 1) := by decide +kernel
theorem dX10_wideBlock_304 : decode cX10_wideBlock 304 = .ok (.bipush 34, 2) := by decide +kernel
theorem dX10_wideBlock_306 : decode cX10_wideBlock 306 = .ok (.invokestatic 308, 3) := by decide +kernel
theorem dX10_wideBlock_309 : decode cX10_wideBlock 309 = .ok (.lxor, 1) := by decide +kernel
theorem dX10_wideBlock_310 : decode cX10_wideBlock 310 = .ok (.lload_n 2, 1) := by decide +kernel
theorem dX10_wideBlock_311 : decode cX10_wideBlock 311 = .ok (.bipush 39, 2) := by decide +kernel
theorem dX10_wideBlock_313 : decode cX10_wideBlock 313 = .ok (.invokestatic 308, 3) := by decide +kernel
theorem dX10_wideBlock_316 : decode cX10_wideBlock 316 = .ok (.lxor, 1) := by decide +kernel
theorem dX10_wideBlock_317 : decode cX10_wideBlock 317 = .ok (.lload_n 2, 1) := by decide +kernel
theorem dX10_wideBlock_318 : decode cX10_wideBlock 318 = .ok (.lload 4, 2) := by decide +kernel
theorem dX10_wideBlock_320 : decode cX10_wideBlock 320 = .ok (.land, 1) := by decide +kernel
theorem dX10_wideBlock_321 : decode cX10_wideBlock 321 = .ok (.lload_n 2, 1) := by decide +kernel
theorem dX10_wideBlock_322 : decode cX10_wideBlock 322 = .ok (.lload 6, 2) := by decide +kernel
theorem dX10_wideBlock_324 : decode cX10_wideBlock 324 = .ok (.land, 1) := by decide +kernel
theorem dX10_wideBlock_325 : decode cX10_wideBlock 325 = .ok (.lxor, 1) := by decide +kernel
theorem dX10_wideBlock_326 : decode cX10_wideBlock 326 = .ok (.lload 4, 2) := by decide +kernel
theorem dX10_wideBlock_328 : decode cX10_wideBlock 328 = .ok (.lload 6, 2) := by decide +kernel
theorem dX10_wideBlock_330 : decode cX10_wideBlock 330 = .ok (.land, 1) := by decide +kernel
theorem dX10_wideBlock_331 : decode cX10_wideBlock 331 = .ok (.lxor, 1) := by decide +kernel
theorem dX10_wideBlock_332 : decode cX10_wideBlock 332 = .ok (.ladd, 1) := by decide +kernel
theorem dX10_wideBlock_333 : decode cX10_wideBlock 333 = .ok (.lstore 21, 2) := by decide +kernel
theorem dX10_wideBlock_335 : decode cX10_wideBlock 335 = .ok (.lload 14, 2) := by decide +kernel
theorem dX10_wideBlock_337 : decode cX10_wideBlock 337 = .ok (.lstore 16, 2) := by decide +kernel
theorem dX10_wideBlock_339 : decode cX10_wideBlock 339 = .ok (.lload 12, 2) := by decide +kernel
theorem dX10_wideBlock_341 : decode cX10_wideBlock 341 = .ok (.lstore 14, 2) := by decide +kernel
theorem dX10_wideBlock_343 : decode cX10_wideBlock 343 = .ok (.lload 10, 2) := by decide +kernel
theorem dX10_wideBlock_345 : decode cX10_wideBlock 345 = .ok (.lstore 12, 2) := by decide +kernel
theorem dX10_wideBlock_347 : decode cX10_wideBlock 347 = .ok (.lload 8, 2) := by decide +kernel
theorem dX10_wideBlock_349 : decode cX10_wideBlock 349 = .ok (.lload 19, 2) := by decide +kernel
theorem dX10_wideBlock_351 : decode cX10_wideBlock 351 = .ok (.ladd, 1) := by decide +kernel
theorem dX10_wideBlock_352 : decode cX10_wideBlock 352 = .ok (.lstore 10, 2) := by decide +kernel
theorem dX10_wideBlock_354 : decode cX10_wideBlock 354 = .ok (.lload 6, 2) := by decide +kernel
theorem dX10_wideBlock_356 : decode cX10_wideBlock 356 = .ok (.lstore 8, 2) := by decide +kernel
theorem dX10_wideBlock_358 : decode cX10_wideBlock 358 = .ok (.lload 4, 2) := by decide +kernel
theorem dX10_wideBlock_360 : decode cX10_wideBlock 360 = .ok (.lstore 6, 2) := by decide +kernel
theorem dX10_wideBlock_362 : decode cX10_wideBlock 362 = .ok (.lload_n 2, 1) := by decide +kernel
theorem dX10_wideBlock_363 : decode cX10_wideBlock 363 = .ok (.lstore 4, 2) := by decide +kernel
theorem dX10_wideBlock_365 : decode cX10_wideBlock 365 = .ok (.lload 19, 2) := by decide +kernel
theorem dX10_wideBlock_367 : decode cX10_wideBlock 367 = .ok (.lload 21, 2) := by decide +kernel
theorem dX10_wideBlock_369 : decode cX10_wideBlock 369 = .ok (.ladd, 1) := by decide +kernel
theorem dX10_wideBlock_370 : decode cX10_wideBlock 370 = .ok (.lstore_n 2, 1) := by decide +kernel
theorem dX10_wideBlock_371 : decode cX10_wideBlock 371 = .ok (.iinc 18 1, 3) := by decide +kernel
theorem dX10_wideBlock_374 : decode cX10_wideBlock 374 = .ok (.goto (-143), 3) := by decide +kernel
theorem dX10_wideBlock_377 : decode cX10_wideBlock 377 = .ok (.aload_n 0, 1) := by decide +kernel
theorem dX10_wideBlock_378 : decode cX10_wideBlock 378 = .ok (.getfield 296, 3) := by decide +kernel
theorem dX10_wideBlock_381 : decode cX10_wideBlock 381 = .ok (.iconst 0, 1) := by decide +kernel
theorem dX10_wideBlock_382 : decode cX10_wideBlock 382 = .ok (.dup2, 1) := by decide +kernel
theorem dX10_wideBlock_383 : decode cX10_wideBlock 383 = .ok (.laload, 1) := by decide +kernel
theorem dX10_wideBlock_384 : decode cX10_wideBlock 384 = .ok (.lload_n 2, 1) := by decide +kernel
theorem dX10_wideBlock_385 : decode cX10_wideBlock 385 = .ok (.ladd, 1) := by decide +kernel
theorem dX10_wideBlock_386 : decode cX10_wideBlock 386 = .ok (.lastore, 1) := by decide +kernel
theorem dX10_wideBlock_387 : decode cX10_wideBlock 387 = .ok (.aload_n 0, 1) := by decide +kernel
theorem dX10_wideBlock_388 : decode cX10_wideBlock 388 = .ok (.getfield 296, 3) := by decide +kernel
theorem dX10_wideBlock_391 : decode cX10_wideBlock 391 = .ok (.iconst 1, 1) := by decide +kernel
theorem dX10_wideBlock_392 : decode cX10_wideBlock 392 = .ok (.dup2, 1) := by decide +kernel
theorem dX10_wideBlock_393 : decode cX10_wideBlock 393 = .ok (.laload, 1) := by decide +kernel
theorem dX10_wideBlock_394 : decode cX10_wideBlock 394 = .ok (.lload 4, 2) := by decide +kernel
theorem dX10_wideBlock_396 : decode cX10_wideBlock 396 = .ok (.ladd, 1) := by decide +kernel
theorem dX10_wideBlock_397 : decode cX10_wideBlock 397 = .ok (.lastore, 1) := by decide +kernel
theorem dX10_wideBlock_398 : decode cX10_wideBlock 398 = .ok (.aload_n 0, 1) := by decide +kernel
theorem dX10_wideBlock_399 : decode cX10_wideBlock 399 = .ok (.getfield 296, 3) := by decide +kernel
theorem dX10_wideBlock_402 : decode cX10_wideBlock 402 = .ok (.iconst 2, 1) := by decide +kernel
theorem dX10_wideBlock_403 : decode cX10_wideBlock 403 = .ok (.dup2, 1) := by decide +kernel
theorem dX10_wideBlock_404 : decode cX10_wideBlock 404 = .ok (.laload, 1) := by decide +kernel
theorem dX10_wideBlock_405 : decode cX10_wideBlock 405 = .ok (.lload 6, 2) := by decide +kernel
theorem dX10_wideBlock_407 : decode cX10_wideBlock 407 = .ok (.ladd, 1) := by decide +kernel
theorem dX10_wideBlock_408 : decode cX10_wideBlock 408 = .ok (.lastore, 1) := by decide +kernel
theorem dX10_wideBlock_409 : decode cX10_wideBlock 409 = .ok (.aload_n 0, 1) := by decide +kernel
theorem dX10_wideBlock_410 : decode cX10_wideBlock 410 = .ok (.getfield 296, 3) := by decide +kernel
theorem dX10_wideBlock_413 : decode cX10_wideBlock 413 = .ok (.iconst 3, 1) := by decide +kernel
theorem dX10_wideBlock_414 : decode cX10_wideBlock 414 = .ok (.dup2, 1) := by decide +kernel
theorem dX10_wideBlock_415 : decode cX10_wideBlock 415 = .ok (.laload, 1) := by decide +kernel
theorem dX10_wideBlock_416 : decode cX10_wideBlock 416 = .ok (.lload 8, 2) := by decide +kernel
theorem dX10_wideBlock_418 : decode cX10_wideBlock 418 = .ok (.ladd, 1) := by decide +kernel
theorem dX10_wideBlock_419 : decode cX10_wideBlock 419 = .ok (.lastore, 1) := by decide +kernel
theorem dX10_wideBlock_420 : decode cX10_wideBlock 420 = .ok (.aload_n 0, 1) := by decide +kernel
theorem dX10_wideBlock_421 : decode cX10_wideBlock 421 = .ok (.getfield 296, 3) := by decide +kernel
theorem dX10_wideBlock_424 : decode cX10_wideBlock 424 = .ok (.iconst 4, 1) := by decide +kernel
theorem dX10_wideBlock_425 : decode cX10_wideBlock 425 = .ok (.dup2, 1) := by decide +kernel
theorem dX10_wideBlock_426 : decode cX10_wideBlock 426 = .ok (.laload, 1) := by decide +kernel
theorem dX10_wideBlock_427 : decode cX10_wideBlock 427 = .ok (.lload 10, 2) := by decide +kernel
theorem dX10_wideBlock_429 : decode cX10_wideBlock 429 = .ok (.ladd, 1) := by decide +kernel
theorem dX10_wideBlock_430 : decode cX10_wideBlock 430 = .ok (.lastore, 1) := by decide +kernel
theorem dX10_wideBlock_431 : decode cX10_wideBlock 431 = .ok (.aload_n 0, 1) := by decide +kernel
theorem dX10_wideBlock_432 : decode cX10_wideBlock 432 = .ok (.getfield 296, 3) := by decide +kernel
theorem dX10_wideBlock_435 : decode cX10_wideBlock 435 = .ok (.iconst 5, 1) := by decide +kernel
theorem dX10_wideBlock_436 : decode cX10_wideBlock 436 = .ok (.dup2, 1) := by decide +kernel
theorem dX10_wideBlock_437 : decode cX10_wideBlock 437 = .ok (.laload, 1) := by decide +kernel
theorem dX10_wideBlock_438 : decode cX10_wideBlock 438 = .ok (.lload 12, 2) := by decide +kernel
theorem dX10_wideBlock_440 : decode cX10_wideBlock 440 = .ok (.ladd, 1) := by decide +kernel
theorem dX10_wideBlock_441 : decode cX10_wideBlock 441 = .ok (.lastore, 1) := by decide +kernel
theorem dX10_wideBlock_442 : decode cX10_wideBlock 442 = .ok (.aload_n 0, 1) := by decide +kernel
theorem dX10_wideBlock_443 : decode cX10_wideBlock 443 = .ok (.getfield 296, 3) := by decide +kernel
theorem dX10_wideBlock_446 : decode cX10_wideBlock 446 = .ok (.bipush 6, 2) := by decide +kernel
theorem dX10_wideBlock_448 : decode cX10_wideBlock 448 = .ok (.dup2, 1) := by decide +kernel
theorem dX10_wideBlock_449 : decode cX10_wideBlock 449 = .ok (.laload, 1) := by decide +kernel
theorem dX10_wideBlock_450 : decode cX10_wideBlock 450 = .ok (.lload 14, 2) := by decide +kernel
theorem dX10_wideBlock_452 : decode cX10_wideBlock 452 = .ok (.ladd, 1) := by decide +kernel
theorem dX10_wideBlock_453 : decode cX10_wideBlock 453 = .ok (.lastore, 1) := by decide +kernel
theorem dX10_wideBlock_454 : decode cX10_wideBlock 454 = .ok (.aload_n 0, 1) := by decide +kernel
theorem dX10_wideBlock_455 : decode cX10_wideBlock 455 = .ok (.getfield 296, 3) := by decide +kernel
theorem dX10_wideBlock_458 : decode cX10_wideBlock 458 = .ok (.bipush 7, 2) := by decide +kernel
theorem dX10_wideBlock_460 : decode cX10_wideBlock 460 = .ok (.dup2, 1) := by decide +kernel
theorem dX10_wideBlock_461 : decode cX10_wideBlock 461 = .ok (.laload, 1) := by decide +kernel
theorem dX10_wideBlock_462 : decode cX10_wideBlock 462 = .ok (.lload 16, 2) := by decide +kernel
theorem dX10_wideBlock_464 : decode cX10_wideBlock 464 = .ok (.ladd, 1) := by decide +kernel
theorem dX10_wideBlock_465 : decode cX10_wideBlock 465 = .ok (.lastore, 1) := by decide +kernel
theorem dX10_wideBlock_466 : decode cX10_wideBlock 466 = .ok (.return_, 1) := by decide +kernel
abbrev cX10_roll_2 : ByteArray := prog_15_method_42_code
def yX10_roll_2 : MethodName := ⟨RX10, "roll", "(JI)J"⟩
theorem dX10_roll_2_0 : decode cX10_roll_2 0 = .ok (.lload_n 0, 1) := by decide +kernel
theorem dX10_roll_2_1 : decode cX10_roll_2 1 = .ok (.iload_n 2, 1) := by decide +kernel
theorem dX10_roll_2_2 : decode cX10_roll_2 2 = .ok (.lushr, 1) := by decide +kernel
theorem dX10_roll_2_3 : decode cX10_roll_2 3 = .ok (.lload_n 0, 1) := by decide +kernel
theorem dX10_roll_2_4 : decode cX10_roll_2 4 = .ok (.bipush 64, 2) := by decide +kernel
theorem dX10_roll_2_6 : decode cX10_roll_2 6 = .ok (.iload_n 2, 1) := by decide +kernel
theorem dX10_roll_2_7 : decode cX10_roll_2 7 = .ok (.isub, 1) := by decide +kernel
theorem dX10_roll_2_8 : decode cX10_roll_2 8 = .ok (.lshl, 1) := by decide +kernel
theorem dX10_roll_2_9 : decode cX10_roll_2 9 = .ok (.lor, 1) := by decide +kernel
theorem dX10_roll_2_10 : decode cX10_roll_2 10 = .ok (.lreturn, 1) := by decide +kernel
abbrev cX10_field : ByteArray := prog_15_method_50_code
def yX10_field : MethodName := ⟨RX10, "field", "(LVeilMintModel$Mod;I[I)V"⟩
theorem dX10_field_0 : decode cX10_field 0 = .ok (.aload_n 0, 1) := by decide +kernel
theorem dX10_field_1 : decode cX10_field 1 = .ok (.getfield 349, 3) := by decide +kernel
theorem dX10_field_4 : decode cX10_field 4 = .ok (.iload_n 2, 1) := by decide +kernel
theorem dX10_field_5 : decode cX10_field 5 = .ok (.bipush 72, 2) := by decide +kernel
theorem dX10_field_7 : decode cX10_field 7 = .ok (.aload_n 0, 1) := by decide +kernel
theorem dX10_field_8 : decode cX10_field 8 = .ok (.getfield 36, 3) := by decide +kernel
theorem dX10_field_11 : decode cX10_field 11 = .ok (.bipush 18, 2) := by decide +kernel
theorem dX10_field_13 : decode cX10_field 13 = .ok (.invokestatic 217, 3) := by decide +kernel
theorem dX10_field_16 : decode cX10_field 16 = .ok (.aload_n 0, 1) := by decide +kernel
theorem dX10_field_17 : decode cX10_field 17 = .ok (.aload_n 1, 1) := by decide +kernel
theorem dX10_field_18 : decode cX10_field 18 = .ok (.bipush 18, 2) := by decide +kernel
theorem dX10_field_20 : decode cX10_field 20 = .ok (.aload_n 3, 1) := by decide +kernel
theorem dX10_field_21 : decode cX10_field 21 = .ok (.invokevirtual 69, 3) := by decide +kernel
theorem dX10_field_24 : decode cX10_field 24 = .ok (.return_, 1) := by decide +kernel
abbrev cX10_map : ByteArray := prog_15_method_52_code
def yX10_map : MethodName := ⟨RX10, "map", "([ILVeilMintModel$Spot;)V"⟩
theorem dX10_map_0 : decode cX10_map 0 = .ok (.aload_n 1, 1) := by decide +kernel
theorem dX10_map_1 : decode cX10_map 1 = .ok (.aload_n 0, 1) := by decide +kernel
theorem dX10_map_2 : decode cX10_map 2 = .ok (.getfield 366, 3) := by decide +kernel
theorem dX10_map_5 : decode cX10_map 5 = .ok (.bipush 12, 2) := by decide +kernel
theorem dX10_map_7 : decode cX10_map 7 = .ok (.invokestatic 91, 3) := by decide +kernel
theorem dX10_map_10 : decode cX10_map 10 = .ok (.aload_n 0, 1) := by decide +kernel
theorem dX10_map_11 : decode cX10_map 11 = .ok (.aload_n 0, 1) := by decide +kernel
theorem dX10_map_12 : decode cX10_map 12 = .ok (.getfield 61, 3) := by decide +kernel
theorem dX10_map_15 : decode cX10_map 15 = .ok (.aload_n 0, 1) := by decide +kernel
theorem dX10_map_16 : decode cX10_map 16 = .ok (.getfield 366, 3) := by decide +kernel
theorem dX10_map_19 : decode cX10_map 19 = .ok (.aload_n 0, 1) := by decide +kernel
theorem dX10_map_20 : decode cX10_map 20 = .ok (.getfield 366, 3) := by decide +kernel
theorem dX10_map_23 : decode cX10_map 23 = .ok (.aload_n 0, 1) := by decide +kernel
theorem dX10_map_24 : decode cX10_map 24 = .ok (.getfield 368, 3) := by decide +kernel
theorem dX10_map_27 : decode cX10_map 27 = .ok (.invokevirtual 102, 3) := by decide +kernel
theorem dX10_map_30 : decode cX10_map 30 = .ok (.aload_n 0, 1) := by decide +kernel
theorem dX10_map_31 : decode cX10_map 31 = .ok (.aload_n 0, 1) := by decide +kernel
theorem dX10_map_32 : decode cX10_map 32 = .ok (.getfield 61, 3) := by decide +kernel
theorem dX10_map_35 : decode cX10_map 35 = .ok (.aload_n 0, 1) := by decide +kernel
theorem dX10_map_36 : decode cX10_map 36 = .ok (.getfield 368, 3) := by decide +kernel
theorem dX10_map_39 : decode cX10_map 39 = .ok (.aload_n 0, 1) := by decide +kernel
theorem dX10_map_40 : decode cX10_map 40 = .ok (.getfield 371, 3) := by decide +kernel
theorem dX10_map_43 : decode cX10_map 43 = .ok (.aload_n 0, 1) := by decide +kernel
theorem dX10_map_44 : decode cX10_map 44 = .ok (.getfield 368, 3) := by decide +kernel
theorem dX10_map_47 : decode cX10_map 47 = .ok (.invokevirtual 102, 3) := by decide +kernel
theorem dX10_map_50 : decode cX10_map 50 = .ok (.aload_n 0, 1) := by decide +kernel
theorem dX10_map_51 : decode cX10_map 51 = .ok (.aload_n 0, 1) := by decide +kernel
theorem dX10_map_52 : decode cX10_map 52 = .ok (.getfield 61, 3) := by decide +kernel
theorem dX10_map_55 : decode cX10_map 55 = .ok (.aload_n 0, 1) := by decide +kernel
theorem dX10_map_56 : decode cX10_map 56 = .ok (.getfield 368, 3) := by decide +kernel
theorem dX10_map_59 : decode cX10_map 59 = .ok (.aload_n 0, 1) := by decide +kernel
theorem dX10_map_60 : decode cX10_map 60 = .ok (.getfield 368, 3) := by decide +kernel
theorem dX10_map_63 : decode cX10_map 63 = .ok (.aload_n 0, 1) := by decide +kernel
theorem dX10_map_64 : decode cX10_map 64 = .ok (.getfield 374, 3) := by decide +kernel
theorem dX10_map_67 : decode cX10_map 67 = .ok (.invokevirtual 102, 3) := by decide +kernel
theorem dX10_map_70 : decode cX10_map 70 = .ok (.aload_n 0, 1) := by decide +kernel
theorem dX10_map_71 : decode cX10_map 71 = .ok (.getfield 61, 3) := by decide +kernel
theorem dX10_map_74 : decode cX10_map 74 = .ok (.aload_n 0, 1) := by decide +kernel
theorem dX10_map_75 : decode cX10_map 75 = .ok (.getfield 374, 3) := by decide +kernel
theorem dX10_map_78 : decode cX10_map 78 = .ok (.aload_n 0, 1) := by decide +kernel
theorem dX10_map_79 : decode cX10_map 79 = .ok (.getfield 368, 3) := by decide +kernel
theorem dX10_map_82 : decode cX10_map 82 = .ok (.aload_n 0, 1) := by decide +kernel
theorem dX10_map_83 : decode cX10_map 83 = .ok (.getfield 374, 3) := by decide +kernel
theorem dX10_map_86 : decode cX10_map 86 = .ok (.invokestatic 155, 3) := by decide +kernel
theorem dX10_map_89 : decode cX10_map 89 = .ok (.aload_n 0, 1) := by decide +kernel
theorem dX10_map_90 : decode cX10_map 90 = .ok (.getfield 374, 3) := by decide +kernel
theorem dX10_map_93 : decode cX10_map 93 = .ok (.bipush 12, 2) := by decide +kernel
theorem dX10_map_95 : decode cX10_map 95 = .ok (.invokestatic 122, 3) := by decide +kernel
theorem dX10_map_98 : decode cX10_map 98 = .ok (.ifCond .eq 43, 3) := by decide +kernel
theorem dX10_map_101 : decode cX10_map 101 = .ok (.aload_n 0, 1) := by decide +kernel
theorem dX10_map_102 : decode cX10_map 102 = .ok (.aload_n 0, 1) := by decide +kernel
theorem dX10_map_103 : decode cX10_map 103 = .ok (.getfield 61, 3) := by decide +kernel
theorem dX10_map_106 : decode cX10_map 106 = .ok (.aload_n 0, 1) := by decide +kernel
theorem dX10_map_107 : decode cX10_map 107 = .ok (.getfield 371, 3) := by decide +kernel
theorem dX10_map_110 : decode cX10_map 110 = .ok (.aload_n 0, 1) := by decide +kernel
theorem dX10_map_111 : decode cX10_map 111 = .ok (.getfield 377, 3) := by decide +kernel
theorem dX10_map_114 : decode cX10_map 114 = .ok (.aload_n 0, 1) := by decide +kernel
theorem dX10_map_115 : decode cX10_map 115 = .ok (.getfield 380, 3) := by decide +kernel
theorem dX10_map_118 : decode cX10_map 118 = .ok (.invokevirtual 102, 3) := by decide +kernel
theorem dX10_map_121 : decode cX10_map 121 = .ok (.aload_n 0, 1) := by decide +kernel
theorem dX10_map_122 : decode cX10_map 122 = .ok (.aload_n 0, 1) := by decide +kernel
theorem dX10_map_123 : decode cX10_map 123 = .ok (.getfield 61, 3) := by decide +kernel
theorem dX10_map_126 : decode cX10_map 126 = .ok (.aload_n 0, 1) := by decide +kernel
theorem dX10_map_127 : decode cX10_map 127 = .ok (.getfield 380, 3) := by decide +kernel
theorem dX10_map_130 : decode cX10_map 130 = .ok (.aload_n 0, 1) := by decide +kernel
theorem dX10_map_131 : decode cX10_map 131 = .ok (.getfield 374, 3) := by decide +kernel
theorem dX10_map_134 : decode cX10_map 134 = .ok (.invokevirtual 161, 3) := by decide +kernel
theorem dX10_map_137 : decode cX10_map 137 = .ok (.istore_n 3, 1) := by decide +kernel
theorem dX10_map_138 : decode cX10_map 138 = .ok (.goto 109, 3) := by decide +kernel
theorem dX10_map_141 : decode cX10_map 141 = .ok (.aload_n 0, 1) := by decide +kernel
theorem dX10_map_142 : decode cX10_map 142 = .ok (.getfield 374, 3) := by decide +kernel
theorem dX10_map_145 : decode cX10_map 145 = .ok (.aload_n 0, 1) := by decide +kernel
theorem dX10_map_146 : decode cX10_map 146 = .ok (.getfield 380, 3) := by decide +kernel
theorem dX10_map_149 : decode cX10_map 149 = .ok (.bipush 12, 2) := by decide +kernel
theorem dX10_map_151 : decode cX10_map 151 = .ok (.invokestatic 91, 3) := by decide +kernel
theorem dX10_map_154 : decode cX10_map 154 = .ok (.aload_n 0, 1) := by decide +kernel
theorem dX10_map_155 : decode cX10_map 155 = .ok (.aload_n 0, 1) := by decide +kernel
theorem dX10_map_156 : decode cX10_map 156 = .ok (.getfield 61, 3) := by decide +kernel
theorem dX10_map_159 : decode cX10_map 159 = .ok (.aload_n 0, 1) := by decide +kernel
theorem dX10_map_160 : decode cX10_map 160 = .ok (.getfield 380, 3) := by decide +kernel
theorem dX10_map_163 : decode cX10_map 163 = .ok (.aload_n 0, 1) := by decide +kernel
theorem dX10_map_164 : decode cX10_map 164 = .ok (.getfield 374, 3) := by decide +kernel
theorem dX10_map_167 : decode cX10_map 167 = .ok (.invokevirtual 161, 3) := by decide +kernel
theorem dX10_map_170 : decode cX10_map 170 = .ok (.istore_n 3, 1) := by decide +kernel
theorem dX10_map_171 : decode cX10_map 171 = .ok (.iconst 1, 1) := by decide +kernel
theorem dX10_map_172 : decode cX10_map 172 = .ok (.aload_n 0, 1) := by decide +kernel
theorem dX10_map_173 : decode cX10_map 173 = .ok (.getfield 380, 3) := by decide +kernel
theorem dX10_map_176 : decode cX10_map 176 = .ok (.bipush 12, 2) := by decide +kernel
theorem dX10_map_178 : decode cX10_map 178 = .ok (.invokestatic 98, 3) := by decide +kernel
theorem dX10_map_181 : decode cX10_map 181 = .ok (.aload_n 0, 1) := by decide +kernel
theorem dX10_map_182 : decode cX10_map 182 = .ok (.getfield 61, 3) := by decide +kernel
theorem dX10_map_185 : decode cX10_map 185 = .ok (.aload_n 0, 1) := by decide +kernel
theorem dX10_map_186 : decode cX10_map 186 = .ok (.getfield 374, 3) := by decide +kernel
theorem dX10_map_189 : decode cX10_map 189 = .ok (.aload_n 0, 1) := by decide +kernel
theorem dX10_map_190 : decode cX10_map 190 = .ok (.getfield 380, 3) := by decide +kernel
theorem dX10_map_193 : decode cX10_map 193 = .ok (.aload_n 0, 1) := by decide +kernel
theorem dX10_map_194 : decode cX10_map 194 = .ok (.getfield 374, 3) := by decide +kernel
theorem dX10_map_197 : decode cX10_map 197 = .ok (.invokestatic 155, 3) := by decide +kernel
theorem dX10_map_200 : decode cX10_map 200 = .ok (.iconst 3, 1) := by decide +kernel
theorem dX10_map_201 : decode cX10_map 201 = .ok (.aload_n 0, 1) := by decide +kernel
theorem dX10_map_202 : decode cX10_map 202 = .ok (.getfield 380, 3) := by decide +kernel
theorem dX10_map_205 : decode cX10_map 205 = .ok (.bipush 12, 2) := by decide +kernel
theorem dX10_map_207 : decode cX10_map 207 = .ok (.invokestatic 98, 3) := by decide +kernel
theorem dX10_map_210 : decode cX10_map 210 = .ok (.aload_n 0, 1) := by decide +kernel
theorem dX10_map_211 : decode cX10_map 211 = .ok (.aload_n 0, 1) := by decide +kernel
theorem dX10_map_212 : decode cX10_map 212 = .ok (.getfield 61, 3) := by decide +kernel
theorem dX10_map_215 : decode cX10_map 215 = .ok (.aload_n 0, 1) := by decide +kernel
theorem dX10_map_216 : decode cX10_map 216 = .ok (.getfield 380, 3) := by decide +kernel
theorem dX10_map_219 : decode cX10_map 219 = .ok (.aload_n 0, 1) := by decide +kernel
theorem dX10_map_220 : decode cX10_map 220 = .ok (.getfield 207, 3) := by decide +kernel
theorem dX10_map_223 : decode cX10_map 223 = .ok (.invokevirtual 161, 3) := by decide +kernel
theorem dX10_map_226 : decode cX10_map 226 = .ok (.istore_n 3, 1) := by decide +kernel
theorem dX10_map_227 : decode cX10_map 227 = .ok (.aload_n 0, 1) := by decide +kernel
theorem dX10_map_228 : decode cX10_map 228 = .ok (.aload_n 0, 1) := by decide +kernel
theorem dX10_map_229 : decode cX10_map 229 = .ok (.getfield 61, 3) := by decide +kernel
theorem dX10_map_232 : decode cX10_map 232 = .ok (.aload_n 0, 1) := by decide +kernel
theorem dX10_map_233 : decode cX10_map 233 = .ok (.getfield 374, 3) := by decide +kernel
theorem dX10_map_236 : decode cX10_map 236 = .ok (.aload_n 0, 1) := by decide +kernel
theorem dX10_map_237 : decode cX10_map 237 = .ok (.getfield 207, 3) := by decide +kernel
theorem dX10_map_240 : decode cX10_map 240 = .ok (.aload_n 0, 1) := by decide +kernel
theorem dX10_map_241 : decode cX10_map 241 = .ok (.getfield 374, 3) := by decide +kernel
theorem dX10_map_244 : decode cX10_map 244 = .ok (.invokevirtual 102, 3) := by decide +kernel
theorem dX10_map_247 : decode cX10_map 247 = .ok (.aload_n 0, 1) := by decide +kernel
theorem dX10_map_248 : decode cX10_map 248 = .ok (.aload_n 0, 1) := by decide +kernel
theorem dX10_map_249 : decode cX10_map 249 = .ok (.getfield 61, 3) := by decide +kernel
theorem dX10_map_252 : decode cX10_map 252 = .ok (.aload_n 0, 1) := by decide +kernel
theorem dX10_map_253 : decode cX10_map 253 = .ok (.getfield 374, 3) := by decide +kernel
theorem dX10_map_256 : decode cX10_map 256 = .ok (.getstatic 204, 3) := by decide +kernel
theorem dX10_map_259 : decode cX10_map 259 = .ok (.aload_n 2, 1) := by decide +kernel
theorem dX10_map_260 : decode cX10_map 260 = .ok (.getfield 146, 3) := by decide +kernel
theorem dX10_map_263 : decode cX10_map 263 = .ok (.invokevirtual 102, 3) := by decide +kernel
theorem dX10_map_266 : decode cX10_map 266 = .ok (.aload_n 0, 1) := by decide +kernel
theorem dX10_map_267 : decode cX10_map 267 = .ok (.aload_n 2, 1) := by decide +kernel
theorem dX10_map_268 : decode cX10_map 268 = .ok (.getfield 146, 3) := by decide +kernel
theorem dX10_map_271 : decode cX10_map 271 = .ok (.aload_n 0, 1) := by decide +kernel
theorem dX10_map_272 : decode cX10_map 272 = .ok (.getfield 380, 3) := by decide +kernel
theorem dX10_map_275 : decode cX10_map 275 = .ok (.invokevirtual 221, 3) := by decide +kernel
theorem dX10_map_278 : decode cX10_map 278 = .ok (.aload_n 0, 1) := by decide +kernel
theorem dX10_map_279 : decode cX10_map 279 = .ok (.aload_n 0, 1) := by decide +kernel
theorem dX10_map_280 : decode cX10_map 280 = .ok (.getfield 380, 3) := by decide +kernel
theorem dX10_map_283 : decode cX10_map 283 = .ok (.aload_n 2, 1) := by decide +kernel
theorem dX10_map_284 : decode cX10_map 284 = .ok (.getfield 149, 3) := by decide +kernel
theorem dX10_map_287 : decode cX10_map 287 = .ok (.invokevirtual 225, 3) := by decide +kernel
theorem dX10_map_290 : decode cX10_map 290 = .ok (.ifCond .ne 48, 3) := by decide +kernel
theorem dX10_map_293 : decode cX10_map 293 = .ok (.aload_n 0, 1) := by decide +kernel
theorem dX10_map_294 : decode cX10_map 294 = .ok (.aload_n 0, 1) := by decide +kernel
theorem dX10_map_295 : decode cX10_map 295 = .ok (.getfield 61, 3) := by decide +kernel
theorem dX10_map_298 : decode cX10_map 298 = .ok (.aload_n 0, 1) := by decide +kernel
theorem dX10_map_299 : decode cX10_map 299 = .ok (.getfield 368, 3) := by decide +kernel
theorem dX10_map_302 : decode cX10_map 302 = .ok (.aload_n 2, 1) := by decide +kernel
theorem dX10_map_303 : decode cX10_map 303 = .ok (.getfield 146, 3) := by decide +kernel
theorem dX10_map_306 : decode cX10_map 306 = .ok (.aload_n 2, 1) := by decide +kernel
theorem dX10_map_307 : decode cX10_map 307 = .ok (.getfield 146, 3) := by decide +kernel
theorem dX10_map_310 : decode cX10_map 310 = .ok (.invokevirtual 102, 3) := by decide +kernel
theorem dX10_map_313 : decode cX10_map 313 = .ok (.aload_n 0, 1) := by decide +kernel
theorem dX10_map_314 : decode cX10_map 314 = .ok (.aload_n 2, 1) := by decide +kernel
theorem dX10_map_315 : decode cX10_map 315 = .ok (.getfield 146, 3) := by decide +kernel
theorem dX10_map_318 : decode cX10_map 318 = .ok (.aload_n 0, 1) := by decide +kernel
theorem dX10_map_319 : decode cX10_map 319 = .ok (.getfield 380, 3) := by decide +kernel
theorem dX10_map_322 : decode cX10_map 322 = .ok (.invokevirtual 221, 3) := by decide +kernel
theorem dX10_map_325 : decode cX10_map 325 = .ok (.aload_n 0, 1) := by decide +kernel
theorem dX10_map_326 : decode cX10_map 326 = .ok (.aload_n 0, 1) := by decide +kernel
theorem dX10_map_327 : decode cX10_map 327 = .ok (.getfield 380, 3) := by decide +kernel
theorem dX10_map_330 : decode cX10_map 330 = .ok (.aload_n 2, 1) := by decide +kernel
theorem dX10_map_331 : decode cX10_map 331 = .ok (.getfield 149, 3) := by decide +kernel
theorem dX10_map_334 : decode cX10_map 334 = .ok (.invokevirtual 225, 3) := by decide +kernel
theorem dX10_map_337 : decode cX10_map 337 = .ok (.istore_n 3, 1) := by decide +kernel
theorem dX10_map_338 : decode cX10_map 338 = .ok (.aload_n 0, 1) := by decide +kernel
theorem dX10_map_339 : decode cX10_map 339 = .ok (.getfield 366, 3) := by decide +kernel
theorem dX10_map_342 : decode cX10_map 342 = .ok (.iconst 0, 1) := by decide +kernel
theorem dX10_map_343 : decode cX10_map 343 = .ok (.iaload, 1) := by decide +kernel
theorem dX10_map_344 : decode cX10_map 344 = .ok (.iconst 1, 1) := by decide +kernel
theorem dX10_map_345 : decode cX10_map 345 = .ok (.iand, 1) := by decide +kernel
theorem dX10_map_346 : decode cX10_map 346 = .ok (.aload_n 2, 1) := by decide +kernel
theorem dX10_map_347 : decode cX10_map 347 = .ok (.getfield 149, 3) := by decide +kernel
theorem dX10_map_350 : decode cX10_map 350 = .ok (.iconst 0, 1) := by decide +kernel
theorem dX10_map_351 : decode cX10_map 351 = .ok (.iaload, 1) := by decide +kernel
theorem dX10_map_352 : decode cX10_map 352 = .ok (.iconst 1, 1) := by decide +kernel
theorem dX10_map_353 : decode cX10_map 353 = .ok (.iand, 1) := by decide +kernel
theorem dX10_map_354 : decode cX10_map 354 = .ok (.if_icmp .eq 22, 3) := by decide +kernel
theorem dX10_map_357 : decode cX10_map 357 = .ok (.aload_n 2, 1) := by decide +kernel
theorem dX10_map_358 : decode cX10_map 358 = .ok (.getfield 149, 3) := by decide +kernel
theorem dX10_map_361 : decode cX10_map 361 = .ok (.bipush 12, 2) := by decide +kernel
theorem dX10_map_363 : decode cX10_map 363 = .ok (.invokestatic 122, 3) := by decide +kernel
theorem dX10_map_366 : decode cX10_map 366 = .ok (.ifCond .ne 10, 3) := by decide +kernel
theorem dX10_map_369 : decode cX10_map 369 = .ok (.aload_n 2, 1) := by decide +kernel
theorem dX10_map_370 : decode cX10_map 370 = .ok (.getfield 149, 3) := by decide +kernel
theorem dX10_map_373 : decode cX10_map 373 = .ok (.invokestatic 229, 3) := by decide +kernel
theorem dX10_map_376 : decode cX10_map 376 = .ok (.aload_n 2, 1) := by decide +kernel
theorem dX10_map_377 : decode cX10_map 377 = .ok (.iconst 0, 1) := by decide +kernel
theorem dX10_map_378 : decode cX10_map 378 = .ok (.putfield 136, 3) := by decide +kernel
theorem dX10_map_381 : decode cX10_map 381 = .ok (.return_, 1) := by decide +kernel
abbrev cX10_curve : ByteArray := prog_15_method_29_code
def yX10_curve : MethodName := ⟨RX10, "curve", "([I[I)V"⟩
theorem dX10_curve_0 : decode cX10_curve 0 = .ok (.aload_n 0, 1) := by decide +kernel
theorem dX10_curve_1 : decode cX10_curve 1 = .ok (.aload_n 0, 1) := by decide +kernel
theorem dX10_curve_2 : decode cX10_curve 2 = .ok (.getfield 61, 3) := by decide +kernel
theorem dX10_curve_5 : decode cX10_curve 5 = .ok (.aload_n 1, 1) := by decide +kernel
theorem dX10_curve_6 : decode cX10_curve 6 = .ok (.aload_n 1, 1) := by decide +kernel
theorem dX10_curve_7 : decode cX10_curve 7 = .ok (.aload_n 0, 1) := by decide +kernel
theorem dX10_curve_8 : decode cX10_curve 8 = .ok (.getfield 165, 3) := by decide +kernel
theorem dX10_curve_11 : decode cX10_curve 11 = .ok (.invokevirtual 102, 3) := by decide +kernel
theorem dX10_curve_14 : decode cX10_curve 14 = .ok (.iconst 3, 1) := by decide +kernel
theorem dX10_curve_15 : decode cX10_curve 15 = .ok (.aload_n 0, 1) := by decide +kernel
theorem dX10_curve_16 : decode cX10_curve 16 = .ok (.getfield 152, 3) := by decide +kernel
theorem dX10_curve_19 : decode cX10_curve 19 = .ok (.bipush 12, 2) := by decide +kernel
theorem dX10_curve_21 : decode cX10_curve 21 = .ok (.invokestatic 98, 3) := by decide +kernel
theorem dX10_curve_24 : decode cX10_curve 24 = .ok (.aload_n 0, 1) := by decide +kernel
theorem dX10_curve_25 : decode cX10_curve 25 = .ok (.getfield 61, 3) := by decide +kernel
theorem dX10_curve_28 : decode cX10_curve 28 = .ok (.aload_n 0, 1) := by decide +kernel
theorem dX10_curve_29 : decode cX10_curve 29 = .ok (.getfield 165, 3) := by decide +kernel
theorem dX10_curve_32 : decode cX10_curve 32 = .ok (.aload_n 0, 1) := by decide +kernel
theorem dX10_curve_33 : decode cX10_curve 33 = .ok (.getfield 152, 3) := by decide +kernel
theorem dX10_curve_36 : decode cX10_curve 36 = .ok (.aload_n 0, 1) := by decide +kernel
theorem dX10_curve_37 : decode cX10_curve 37 = .ok (.getfield 165, 3) := by decide +kernel
theorem dX10_curve_40 : decode cX10_curve 40 = .ok (.invokestatic 130, 3) := by decide +kernel
theorem dX10_curve_43 : decode cX10_curve 43 = .ok (.aload_n 0, 1) := by decide +kernel
theorem dX10_curve_44 : decode cX10_curve 44 = .ok (.aload_n 0, 1) := by decide +kernel
theorem dX10_curve_45 : decode cX10_curve 45 = .ok (.getfield 61, 3) := by decide +kernel
theorem dX10_curve_48 : decode cX10_curve 48 = .ok (.aload_n 0, 1) := by decide +kernel
theorem dX10_curve_49 : decode cX10_curve 49 = .ok (.getfield 165, 3) := by decide +kernel
theorem dX10_curve_52 : decode cX10_curve 52 = .ok (.aload_n 1, 1) := by decide +kernel
theorem dX10_curve_53 : decode cX10_curve 53 = .ok (.aload_n 2, 1) := by decide +kernel
theorem dX10_curve_54 : decode cX10_curve 54 = .ok (.invokevirtual 102, 3) := by decide +kernel
theorem dX10_curve_57 : decode cX10_curve 57 = .ok (.aload_n 0, 1) := by decide +kernel
theorem dX10_curve_58 : decode cX10_curve 58 = .ok (.getfield 61, 3) := by decide +kernel
theorem dX10_curve_61 : decode cX10_curve 61 = .ok (.aload_n 2, 1) := by decide +kernel
theorem dX10_curve_62 : decode cX10_curve 62 = .ok (.getstatic 204, 3) := by decide +kernel
theorem dX10_curve_65 : decode cX10_curve 65 = .ok (.aload_n 2, 1) := by decide +kernel
theorem dX10_curve_66 : decode cX10_curve 66 = .ok (.invokestatic 155, 3) := by decide +kernel
theorem dX10_curve_69 : decode cX10_curve 69 = .ok (.return_, 1) := by decide +kernel
abbrev cX10_root : ByteArray := prog_15_method_30_code
def yX10_root : MethodName := ⟨RX10, "root", "([I[I)Z"⟩
theorem dX10_root_0 : decode cX10_root 0 = .ok (.aload_n 1, 1) := by decide +kernel
theorem dX10_root_1 : decode cX10_root 1 = .ok (.aload_n 0, 1) := by decide +kernel
theorem dX10_root_2 : decode cX10_root 2 = .ok (.getfield 207, 3) := by decide +kernel
theorem dX10_root_5 : decode cX10_root 5 = .ok (.bipush 12, 2) := by decide +kernel
theorem dX10_root_7 : decode cX10_root 7 = .ok (.invokestatic 91, 3) := by decide +kernel
theorem dX10_root_10 : decode cX10_root 10 = .ok (.aload_n 0, 1) := by decide +kernel
theorem dX10_root_11 : decode cX10_root 11 = .ok (.aload_n 0, 1) := by decide +kernel
theorem dX10_root_12 : decode cX10_root 12 = .ok (.getfield 61, 3) := by decide +kernel
theorem dX10_root_15 : decode cX10_root 15 = .ok (.aload_n 0, 1) := by decide +kernel
theorem dX10_root_16 : decode cX10_root 16 = .ok (.getfield 207, 3) := by decide +kernel
theorem dX10_root_19 : decode cX10_root 19 = .ok (.aload_n 0, 1) := by decide +kernel
theorem dX10_root_20 : decode cX10_root 20 = .ok (.getfield 210, 3) := by decide +kernel
theorem dX10_root_23 : decode cX10_root 23 = .ok (.sipush 384, 3) := by decide +kernel
theorem dX10_root_26 : decode cX10_root 26 = .ok (.aload_n 2, 1) := by decide +kernel
theorem dX10_root_27 : decode cX10_root 27 = .ok (.invokevirtual 213, 3) := by decide +kernel
theorem dX10_root_30 : decode cX10_root 30 = .ok (.aload_n 0, 1) := by decide +kernel
theorem dX10_root_31 : decode cX10_root 31 = .ok (.aload_n 0, 1) := by decide +kernel
theorem dX10_root_32 : decode cX10_root 32 = .ok (.getfield 61, 3) := by decide +kernel
theorem dX10_root_35 : decode cX10_root 35 = .ok (.aload_n 2, 1) := by decide +kernel
theorem dX10_root_36 : decode cX10_root 36 = .ok (.aload_n 2, 1) := by decide +kernel
theorem dX10_root_37 : decode cX10_root 37 = .ok (.aload_n 0, 1) := by decide +kernel
theorem dX10_root_38 : decode cX10_root 38 = .ok (.getfield 152, 3) := by decide +kernel
theorem dX10_root_41 : decode cX10_root 41 = .ok (.invokevirtual 102, 3) := by decide +kernel
theorem dX10_root_44 : decode cX10_root 44 = .ok (.aload_n 0, 1) := by decide +kernel
theorem dX10_root_45 : decode cX10_root 45 = .ok (.getfield 152, 3) := by decide +kernel
theorem dX10_root_48 : decode cX10_root 48 = .ok (.aload_n 0, 1) := by decide +kernel
theorem dX10_root_49 : decode cX10_root 49 = .ok (.getfield 207, 3) := by decide +kernel
theorem dX10_root_52 : decode cX10_root 52 = .ok (.bipush 12, 2) := by decide +kernel
theorem dX10_root_54 : decode cX10_root 54 = .ok (.invokestatic 26, 3) := by decide +kernel
theorem dX10_root_57 : decode cX10_root 57 = .ok (.ifCond .ne 7, 3) := by decide +kernel
theorem dX10_root_60 : decode cX10_root 60 = .ok (.iconst 1, 1) := by decide +kernel
theorem dX10_root_61 : decode cX10_root 61 = .ok (.goto 4, 3) := by decide +kernel
theorem dX10_root_64 : decode cX10_root 64 = .ok (.iconst 0, 1) := by decide +kernel
theorem dX10_root_65 : decode cX10_root 65 = .ok (.ireturn, 1) := by decide +kernel
abbrev cX10_power : ByteArray := prog_15_method_17_code
def yX10_power : MethodName := ⟨RX10, "power", "(LVeilMintModel$Mod;[I[II[I)V"⟩
theorem dX10_power_0 : decode cX10_power 0 = .ok (.aload_n 2, 1) := by decide +kernel
theorem dX10_power_1 : decode cX10_power 1 = .ok (.aload_n 0, 1) := by decide +kernel
theorem dX10_power_2 : decode cX10_power 2 = .ok (.getfield 88, 3) := by decide +kernel
theorem dX10_power_5 : decode cX10_power 5 = .ok (.aload_n 1, 1) := by decide +kernel
theorem dX10_power_6 : decode cX10_power 6 = .ok (.getfield 13, 3) := by decide +kernel
theorem dX10_power_9 : decode cX10_power 9 = .ok (.invokestatic 91, 3) := by decide +kernel
theorem dX10_power_12 : decode cX10_power 12 = .ok (.iconst 1, 1) := by decide +kernel
theorem dX10_power_13 : decode cX10_power 13 = .ok (.aload_n 0, 1) := by decide +kernel
theorem dX10_power_14 : decode cX10_power 14 = .ok (.getfield 95, 3) := by decide +kernel
theorem dX10_power_17 : decode cX10_power 17 = .ok (.aload_n 1, 1) := by decide +kernel
theorem dX10_power_18 : decode cX10_power 18 = .ok (.getfield 13, 3) := by decide +kernel
theorem dX10_power_21 : decode cX10_power 21 = .ok (.invokestatic 98, 3) := by decide +kernel
theorem dX10_power_24 : decode cX10_power 24 = .ok (.iload 4, 2) := by decide +kernel
theorem dX10_power_26 : decode cX10_power 26 = .ok (.iconst 1, 1) := by decide +kernel
theorem dX10_power_27 : decode cX10_power 27 = .ok (.isub, 1) := by decide +kernel
theorem dX10_power_28 : decode cX10_power 28 = .ok (.istore 6, 2) := by decide +kernel
theorem dX10_power_30 : decode cX10_power 30 = .ok (.iload 6, 2) := by decide +kernel
theorem dX10_power_32 : decode cX10_power 32 = .ok (.ifCond .lt 62, 3) := by decide +kernel
theorem dX10_power_35 : decode cX10_power 35 = .ok (.aload_n 0, 1) := by decide +kernel
theorem dX10_power_36 : decode cX10_power 36 = .ok (.aload_n 1, 1) := by decide +kernel
theorem dX10_power_37 : decode cX10_power 37 = .ok (.aload_n 0, 1) := by decide +kernel
theorem dX10_power_38 : decode cX10_power 38 = .ok (.getfield 95, 3) := by decide +kernel
theorem dX10_power_41 : decode cX10_power 41 = .ok (.aload_n 0, 1) := by decide +kernel
theorem dX10_power_42 : decode cX10_power 42 = .ok (.getfield 95, 3) := by decide +kernel
theorem dX10_power_45 : decode cX10_power 45 = .ok (.aload_n 0, 1) := by decide +kernel
theorem dX10_power_46 : decode cX10_power 46 = .ok (.getfield 95, 3) := by decide +kernel
theorem dX10_power_49 : decode cX10_power 49 = .ok (.invokevirtual 102, 3) := by decide +kernel
theorem dX10_power_52 : decode cX10_power 52 = .ok (.aload_n 3, 1) := by decide +kernel
theorem dX10_power_53 : decode cX10_power 53 = .ok (.iload 6, 2) := by decide +kernel
theorem dX10_power_55 : decode cX10_power 55 = .ok (.bipush 32, 2) := by decide +kernel
theorem dX10_power_57 : decode cX10_power 57 = .ok (.idiv, 1) := by decide +kernel
theorem dX10_power_58 : decode cX10_power 58 = .ok (.iaload, 1) := by decide +kernel
theorem dX10_power_59 : decode cX10_power 59 = .ok (.iload 6, 2) := by decide +kernel
theorem dX10_power_61 : decode cX10_power 61 = .ok (.bipush 32, 2) := by decide +kernel
theorem dX10_power_63 : decode cX10_power 63 = .ok (.irem, 1) := by decide +kernel
theorem dX10_power_64 : decode cX10_power 64 = .ok (.iushr, 1) := by decide +kernel
theorem dX10_power_65 : decode cX10_power 65 = .ok (.iconst 1, 1) := by decide +kernel
theorem dX10_power_66 : decode cX10_power 66 = .ok (.iand, 1) := by decide +kernel
theorem dX10_power_67 : decode cX10_power 67 = .ok (.iconst 1, 1) := by decide +kernel
theorem dX10_power_68 : decode cX10_power 68 = .ok (.if_icmp .ne 20, 3) := by decide +kernel
theorem dX10_power_71 : decode cX10_power 71 = .ok (.aload_n 0, 1) := by decide +kernel
theorem dX10_power_72 : decode cX10_power 72 = .ok (.aload_n 1, 1) := by decide +kernel
theorem dX10_power_73 : decode cX10_power 73 = .ok (.aload_n 0, 1) := by decide +kernel
theorem dX10_power_74 : decode cX10_power 74 = .ok (.getfield 95, 3) := by decide +kernel
theorem dX10_power_77 : decode cX10_power 77 = .ok (.aload_n 0, 1) := by decide +kernel
theorem dX10_power_78 : decode cX10_power 78 = .ok (.getfield 88, 3) := by decide +kernel
theorem dX10_power_81 : decode cX10_power 81 = .ok (.aload_n 0, 1) := by decide +kernel
theorem dX10_power_82 : decode cX10_power 82 = .ok (.getfield 95, 3) := by decide +kernel
theorem dX10_power_85 : decode cX10_power 85 = .ok (.invokevirtual 102, 3) := by decide +kernel
theorem dX10_power_88 : decode cX10_power 88 = .ok (.iinc 6 (-1), 3) := by decide +kernel
theorem dX10_power_91 : decode cX10_power 91 = .ok (.goto (-61), 3) := by decide +kernel
theorem dX10_power_94 : decode cX10_power 94 = .ok (.aload_n 0, 1) := by decide +kernel
theorem dX10_power_95 : decode cX10_power 95 = .ok (.getfield 95, 3) := by decide +kernel
theorem dX10_power_98 : decode cX10_power 98 = .ok (.aload 5, 2) := by decide +kernel
theorem dX10_power_100 : decode cX10_power 100 = .ok (.aload_n 1, 1) := by decide +kernel
theorem dX10_power_101 : decode cX10_power 101 = .ok (.getfield 13, 3) := by decide +kernel
theorem dX10_power_104 : decode cX10_power 104 = .ok (.invokestatic 91, 3) := by decide +kernel
theorem dX10_power_107 : decode cX10_power 107 = .ok (.return_, 1) := by decide +kernel
abbrev cX10_turn : ByteArray := prog_15_method_31_code
def yX10_turn : MethodName := ⟨RX10, "turn", "([I)V"⟩
theorem dX10_turn_0 : decode cX10_turn 0 = .ok (.getstatic 85, 3) := by decide +kernel
theorem dX10_turn_3 : decode cX10_turn 3 = .ok (.aload_n 0, 1) := by decide +kernel
theorem dX10_turn_4 : decode cX10_turn 4 = .ok (.aload_n 0, 1) := by decide +kernel
theorem dX10_turn_5 : decode cX10_turn 5 = .ok (.bipush 12, 2) := by decide +kernel
theorem dX10_turn_7 : decode cX10_turn 7 = .ok (.invokestatic 30, 3) := by decide +kernel
theorem dX10_turn_10 : decode cX10_turn 10 = .ok (.istore_n 1, 1) := by decide +kernel
theorem dX10_turn_11 : decode cX10_turn 11 = .ok (.return_, 1) := by decide +kernel
abbrev cX10_join : ByteArray := prog_15_method_24_code
def yX10_join : MethodName := ⟨RX10, "join", "(LVeilMintModel$Spot;LVeilMintModel$Spot;LVeilMintModel$Spot;)V"⟩
theorem dX10_join_0 : decode cX10_join 0 = .ok (.aload_n 1, 1) := by decide +kernel
theorem dX10_join_1 : decode cX10_join 1 = .ok (.getfield 136, 3) := by decide +kernel
theorem dX10_join_4 : decode cX10_join 4 = .ok (.ifCond .eq 9, 3) := by decide +kernel
theorem dX10_join_7 : decode cX10_join 7 = .ok (.aload_n 3, 1) := by decide +kernel
theorem dX10_join_8 : decode cX10_join 8 = .ok (.aload_n 2, 1) := by decide +kernel
theorem dX10_join_9 : decode cX10_join 9 = .ok (.invokevirtual 142, 3) := by decide +kernel
theorem dX10_join_12 : decode cX10_join 12 = .ok (.return_, 1) := by decide +kernel
theorem dX10_join_13 : decode cX10_join 13 = .ok (.aload_n 2, 1) := by decide +kernel
theorem dX10_join_14 : decode cX10_join 14 = .ok (.getfield 136, 3) := by decide +kernel
theorem dX10_join_17 : decode cX10_join 17 = .ok (.ifCond .eq 9, 3) := by decide +kernel
theorem dX10_join_20 : decode cX10_join 20 = .ok (.aload_n 3, 1) := by decide +kernel
theorem dX10_join_21 : decode cX10_join 21 = .ok (.aload_n 1, 1) := by decide +kernel
theorem dX10_join_22 : decode cX10_join 22 = .ok (.invokevirtual 142, 3) := by decide +kernel
theorem dX10_join_25 : decode cX10_join 25 = .ok (.return_, 1) := by decide +kernel
theorem dX10_join_26 : decode cX10_join 26 = .ok (.aload_n 1, 1) := by decide +kernel
theorem dX10_join_27 : decode cX10_join 27 = .ok (.getfield 146, 3) := by decide +kernel
theorem dX10_join_30 : decode cX10_join 30 = .ok (.aload_n 2, 1) := by decide +kernel
theorem dX10_join_31 : decode cX10_join 31 = .ok (.getfield 146, 3) := by decide +kernel
theorem dX10_join_34 : decode cX10_join 34 = .ok (.bipush 12, 2) := by decide +kernel
theorem dX10_join_36 : decode cX10_join 36 = .ok (.invokestatic 26, 3) := by decide +kernel
theorem dX10_join_39 : decode cX10_join 39 = .ok (.ifCond .ne 7, 3) := by decide +kernel
theorem dX10_join_42 : decode cX10_join 42 = .ok (.iconst 1, 1) := by decide +kernel
theorem dX10_join_43 : decode cX10_join 43 = .ok (.goto 4, 3) := by decide +kernel
theorem dX10_join_46 : decode cX10_join 46 = .ok (.iconst 0, 1) := by decide +kernel
theorem dX10_join_47 : decode cX10_join 47 = .ok (.istore 4, 2) := by decide +kernel
theorem dX10_join_49 : decode cX10_join 49 = .ok (.aload_n 0, 1) := by decide +kernel
theorem dX10_join_50 : decode cX10_join 50 = .ok (.getfield 61, 3) := by decide +kernel
theorem dX10_join_53 : decode cX10_join 53 = .ok (.aload_n 1, 1) := by decide +kernel
theorem dX10_join_54 : decode cX10_join 54 = .ok (.getfield 149, 3) := by decide +kernel
theorem dX10_join_57 : decode cX10_join 57 = .ok (.aload_n 2, 1) := by decide +kernel
theorem dX10_join_58 : decode cX10_join 58 = .ok (.getfield 149, 3) := by decide +kernel
theorem dX10_join_61 : decode cX10_join 61 = .ok (.aload_n 0, 1) := by decide +kernel
theorem dX10_join_62 : decode cX10_join 62 = .ok (.getfield 152, 3) := by decide +kernel
theorem dX10_join_65 : decode cX10_join 65 = .ok (.invokestatic 155, 3) := by decide +kernel
theorem dX10_join_68 : decode cX10_join 68 = .ok (.iload 4, 2) := by decide +kernel
theorem dX10_join_70 : decode cX10_join 70 = .ok (.ifCond .eq 21, 3) := by decide +kernel
theorem dX10_join_73 : decode cX10_join 73 = .ok (.aload_n 0, 1) := by decide +kernel
theorem dX10_join_74 : decode cX10_join 74 = .ok (.getfield 152, 3) := by decide +kernel
theorem dX10_join_77 : decode cX10_join 77 = .ok (.bipush 12, 2) := by decide +kernel
theorem dX10_join_79 : decode cX10_join 79 = .ok (.invokestatic 122, 3) := by decide +kernel
theorem dX10_join_82 : decode cX10_join 82 = .ok (.ifCond .eq 9, 3) := by decide +kernel
theorem dX10_join_85 : decode cX10_join 85 = .ok (.aload_n 3, 1) := by decide +kernel
theorem dX10_join_86 : decode cX10_join 86 = .ok (.iconst 1, 1) := by decide +kernel
theorem dX10_join_87 : decode cX10_join 87 = .ok (.putfield 136, 3) := by decide +kernel
theorem dX10_join_90 : decode cX10_join 90 = .ok (.return_, 1) := by decide +kernel
theorem dX10_join_91 : decode cX10_join 91 = .ok (.iload 4, 2) := by decide +kernel
theorem dX10_join_93 : decode cX10_join 93 = .ok (.ifCond .eq 111, 3) := by decide +kernel
theorem dX10_join_96 : decode cX10_join 96 = .ok (.aload_n 0, 1) := by decide +kernel
theorem dX10_join_97 : decode cX10_join 97 = .ok (.aload_n 0, 1) := by decide +kernel
theorem dX10_join_98 : decode cX10_join 98 = .ok (.getfield 61, 3) := by decide +kernel
theorem dX10_join_101 : decode cX10_join 101 = .ok (.aload_n 0, 1) := by decide +kernel
theorem dX10_join_102 : decode cX10_join 102 = .ok (.getfield 152, 3) := by decide +kernel
theorem dX10_join_105 : decode cX10_join 105 = .ok (.aload_n 0, 1) := by decide +kernel
theorem dX10_join_106 : decode cX10_join 106 = .ok (.getfield 158, 3) := by decide +kernel
theorem dX10_join_109 : decode cX10_join 109 = .ok (.invokevirtual 161, 3) := by decide +kernel
theorem dX10_join_112 : decode cX10_join 112 = .ok (.istore 5, 2) := by decide +kernel
theorem dX10_join_114 : decode cX10_join 114 = .ok (.aload_n 0, 1) := by decide +kernel
theorem dX10_join_115 : decode cX10_join 115 = .ok (.aload_n 0, 1) := by decide +kernel
theorem dX10_join_116 : decode cX10_join 116 = .ok (.getfield 61, 3) := by decide +kernel
theorem dX10_join_119 : decode cX10_join 119 = .ok (.aload_n 1, 1) := by decide +kernel
theorem dX10_join_120 : decode cX10_join 120 = .ok (.getfield 146, 3) := by decide +kernel
theorem dX10_join_123 : decode cX10_join 123 = .ok (.aload_n 1, 1) := by decide +kernel
theorem dX10_join_124 : decode cX10_join 124 = .ok (.getfield 146, 3) := by decide +kernel
theorem dX10_join_127 : decode cX10_join 127 = .ok (.aload_n 0, 1) := by decide +kernel
theorem dX10_join_128 : decode cX10_join 128 = .ok (.getfield 165, 3) := by decide +kernel
theorem dX10_join_131 : decode cX10_join 131 = .ok (.invokevirtual 102, 3) := by decide +kernel
theorem dX10_join_134 : decode cX10_join 134 = .ok (.iconst 1, 1) := by decide +kernel
theorem dX10_join_135 : decode cX10_join 135 = .ok (.aload_n 0, 1) := by decide +kernel
theorem dX10_join_136 : decode cX10_join 136 = .ok (.getfield 152, 3) := by decide +kernel
theorem dX10_join_139 : decode cX10_join 139 = .ok (.bipush 12, 2) := by decide +kernel
theorem dX10_join_141 : decode cX10_join 141 = .ok (.invokestatic 98, 3) := by decide +kernel
theorem dX10_join_144 : decode cX10_join 144 = .ok (.aload_n 0, 1) := by decide +kernel
theorem dX10_join_145 : decode cX10_join 145 = .ok (.getfield 61, 3) := by decide +kernel
theorem dX10_join_148 : decode cX10_join 148 = .ok (.aload_n 0, 1) := by decide +kernel
theorem dX10_join_149 : decode cX10_join 149 = .ok (.getfield 165, 3) := by decide +kernel
theorem dX10_join_152 : decode cX10_join 152 = .ok (.aload_n 0, 1) := by decide +kernel
theorem dX10_join_153 : decode cX10_join 153 = .ok (.getfield 152, 3) := by decide +kernel
theorem dX10_join_156 : decode cX10_join 156 = .ok (.aload_n 0, 1) := by decide +kernel
theorem dX10_join_157 : decode cX10_join 157 = .ok (.getfield 165, 3) := by decide +kernel
theorem dX10_join_160 : decode cX10_join 160 = .ok (.invokestatic 130, 3) := by decide +kernel
theorem dX10_join_163 : decode cX10_join 163 = .ok (.aload_n 0, 1) := by decide +kernel
theorem dX10_join_164 : decode cX10_join 164 = .ok (.getfield 61, 3) := by decide +kernel
theorem dX10_join_167 : decode cX10_join 167 = .ok (.aload_n 0, 1) := by decide +kernel
theorem dX10_join_168 : decode cX10_join 168 = .ok (.getfield 165, 3) := by decide +kernel
theorem dX10_join_171 : decode cX10_join 171 = .ok (.aload_n 0, 1) := by decide +kernel
theorem dX10_join_172 : decode cX10_join 172 = .ok (.getfield 165, 3) := by decide +kernel
theorem dX10_join_175 : decode cX10_join 175 = .ok (.aload_n 0, 1) := by decide +kernel
theorem dX10_join_176 : decode cX10_join 176 = .ok (.getfield 152, 3) := by decide +kernel
theorem dX10_join_179 : decode cX10_join 179 = .ok (.invokestatic 155, 3) := by decide +kernel
theorem dX10_join_182 : decode cX10_join 182 = .ok (.aload_n 0, 1) := by decide +kernel
theorem dX10_join_183 : decode cX10_join 183 = .ok (.getfield 61, 3) := by decide +kernel
theorem dX10_join_186 : decode cX10_join 186 = .ok (.aload_n 0, 1) := by decide +kernel
theorem dX10_join_187 : decode cX10_join 187 = .ok (.getfield 165, 3) := by decide +kernel
theorem dX10_join_190 : decode cX10_join 190 = .ok (.aload_n 0, 1) := by decide +kernel
theorem dX10_join_191 : decode cX10_join 191 = .ok (.getfield 152, 3) := by decide +kernel
theorem dX10_join_194 : decode cX10_join 194 = .ok (.aload_n 0, 1) := by decide +kernel
theorem dX10_join_195 : decode cX10_join 195 = .ok (.getfield 152, 3) := by decide +kernel
theorem dX10_join_198 : decode cX10_join 198 = .ok (.invokestatic 155, 3) := by decide +kernel
theorem dX10_join_201 : decode cX10_join 201 = .ok (.goto 59, 3) := by decide +kernel
theorem dX10_join_204 : decode cX10_join 204 = .ok (.aload_n 0, 1) := by decide +kernel
theorem dX10_join_205 : decode cX10_join 205 = .ok (.getfield 61, 3) := by decide +kernel
theorem dX10_join_208 : decode cX10_join 208 = .ok (.aload_n 2, 1) := by decide +kernel
theorem dX10_join_209 : decode cX10_join 209 = .ok (.getfield 146, 3) := by decide +kernel
theorem dX10_join_212 : decode cX10_join 212 = .ok (.aload_n 1, 1) := by decide +kernel
theorem dX10_join_213 : decode cX10_join 213 = .ok (.getfield 146, 3) := by decide +kernel
theorem dX10_join_216 : decode cX10_join 216 = .ok (.aload_n 0, 1) := by decide +kernel
theorem dX10_join_217 : decode cX10_join 217 = .ok (.getfield 152, 3) := by decide +kernel
theorem dX10_join_220 : decode cX10_join 220 = .ok (.invokestatic 130, 3) := by decide +kernel
theorem dX10_join_223 : decode cX10_join 223 = .ok (.aload_n 0, 1) := by decide +kernel
theorem dX10_join_224 : decode cX10_join 224 = .ok (.aload_n 0, 1) := by decide +kernel
theorem dX10_join_225 : decode cX10_join 225 = .ok (.getfield 61, 3) := by decide +kernel
theorem dX10_join_228 : decode cX10_join 228 = .ok (.aload_n 0, 1) := by decide +kernel
theorem dX10_join_229 : decode cX10_join 229 = .ok (.getfield 152, 3) := by decide +kernel
theorem dX10_join_232 : decode cX10_join 232 = .ok (.aload_n 0, 1) := by decide +kernel
theorem dX10_join_233 : decode cX10_join 233 = .ok (.getfield 158, 3) := by decide +kernel
theorem dX10_join_236 : decode cX10_join 236 = .ok (.invokevirtual 161, 3) := by decide +kernel
theorem dX10_join_239 : decode cX10_join 239 = .ok (.istore 5, 2) := by decide +kernel
theorem dX10_join_241 : decode cX10_join 241 = .ok (.aload_n 0, 1) := by decide +kernel
theorem dX10_join_242 : decode cX10_join 242 = .ok (.getfield 61, 3) := by decide +kernel
theorem dX10_join_245 : decode cX10_join 245 = .ok (.aload_n 2, 1) := by decide +kernel
theorem dX10_join_246 : decode cX10_join 246 = .ok (.getfield 149, 3) := by decide +kernel
theorem dX10_join_249 : decode cX10_join 249 = .ok (.aload_n 1, 1) := by decide +kernel
theorem dX10_join_250 : decode cX10_join 250 = .ok (.getfield 149, 3) := by decide +kernel
theorem dX10_join_253 : decode cX10_join 253 = .ok (.aload_n 0, 1) := by decide +kernel
theorem dX10_join_254 : decode cX10_join 254 = .ok (.getfield 152, 3) := by decide +kernel
theorem dX10_join_257 : decode cX10_join 257 = .ok (.invokestatic 130, 3) := by decide +kernel
theorem dX10_join_260 : decode cX10_join 260 = .ok (.aload_n 0, 1) := by decide +kernel
theorem dX10_join_261 : decode cX10_join 261 = .ok (.aload_n 0, 1) := by decide +kernel
theorem dX10_join_262 : decode cX10_join 262 = .ok (.getfield 61, 3) := by decide +kernel
theorem dX10_join_265 : decode cX10_join 265 = .ok (.aload_n 0, 1) := by decide +kernel
theorem dX10_join_266 : decode cX10_join 266 = .ok (.getfield 158, 3) := by decide +kernel
theorem dX10_join_269 : decode cX10_join 269 = .ok (.aload_n 0, 1) := by decide +kernel
theorem dX10_join_270 : decode cX10_join 270 = .ok (.getfield 152, 3) := by decide +kernel
theorem dX10_join_273 : decode cX10_join 273 = .ok (.aload_n 0, 1) := by decide +kernel
theorem dX10_join_274 : decode cX10_join 274 = .ok (.getfield 158, 3) := by decide +kernel
theorem dX10_join_277 : decode cX10_join 277 = .ok (.invokevirtual 102, 3) := by decide +kernel
theorem dX10_join_280 : decode cX10_join 280 = .ok (.aload_n 0, 1) := by decide +kernel
theorem dX10_join_281 : decode cX10_join 281 = .ok (.aload_n 0, 1) := by decide +kernel
theorem dX10_join_282 : decode cX10_join 282 = .ok (.getfield 61, 3) := by decide +kernel
theorem dX10_join_285 : decode cX10_join 285 = .ok (.aload_n 0, 1) := by decide +kernel
theorem dX10_join_286 : decode cX10_join 286 = .ok (.getfield 158, 3) := by decide +kernel
theorem dX10_join_289 : decode cX10_join 289 = .ok (.aload_n 0, 1) := by decide +kernel
theorem dX10_join_290 : decode cX10_join 290 = .ok (.getfield 158, 3) := by decide +kernel
theorem dX10_join_293 : decode cX10_join 293 = .ok (.aload_n 0, 1) := by decide +kernel
theorem dX10_join_294 : decode cX10_join 294 = .ok (.getfield 152, 3) := by decide +kernel
theorem dX10_join_297 : decode cX10_join 297 = .ok (.invokevirtual 102, 3) := by decide +kernel
theorem dX10_join_300 : decode cX10_join 300 = .ok (.aload_n 0, 1) := by decide +kernel
theorem dX10_join_301 : decode cX10_join 301 = .ok (.getfield 61, 3) := by decide +kernel
theorem dX10_join_304 : decode cX10_join 304 = .ok (.aload_n 0, 1) := by decide +kernel
theorem dX10_join_305 : decode cX10_join 305 = .ok (.getfield 152, 3) := by decide +kernel
theorem dX10_join_308 : decode cX10_join 308 = .ok (.aload_n 1, 1) := by decide +kernel
theorem dX10_join_309 : decode cX10_join 309 = .ok (.getfield 146, 3) := by decide +kernel
theorem dX10_join_312 : decode cX10_join 312 = .ok (.aload_n 0, 1) := by decide +kernel
theorem dX10_join_313 : decode cX10_join 313 = .ok (.getfield 152, 3) := by decide +kernel
theorem dX10_join_316 : decode cX10_join 316 = .ok (.invokestatic 130, 3) := by decide +kernel
theorem dX10_join_319 : decode cX10_join 319 = .ok (.aload_n 0, 1) := by decide +kernel
theorem dX10_join_320 : decode cX10_join 320 = .ok (.getfield 61, 3) := by decide +kernel
theorem dX10_join_323 : decode cX10_join 323 = .ok (.aload_n 0, 1) := by decide +kernel
theorem dX10_join_324 : decode cX10_join 324 = .ok (.getfield 152, 3) := by decide +kernel
theorem dX10_join_327 : decode cX10_join 327 = .ok (.aload_n 2, 1) := by decide +kernel
theorem dX10_join_328 : decode cX10_join 328 = .ok (.getfield 146, 3) := by decide +kernel
theorem dX10_join_331 : decode cX10_join 331 = .ok (.aload_n 0, 1) := by decide +kernel
theorem dX10_join_332 : decode cX10_join 332 = .ok (.getfield 152, 3) := by decide +kernel
theorem dX10_join_335 : decode cX10_join 335 = .ok (.invokestatic 130, 3) := by decide +kernel
theorem dX10_join_338 : decode cX10_join 338 = .ok (.aload_n 0, 1) := by decide +kernel
theorem dX10_join_339 : decode cX10_join 339 = .ok (.getfield 61, 3) := by decide +kernel
theorem dX10_join_342 : decode cX10_join 342 = .ok (.aload_n 1, 1) := by decide +kernel
theorem dX10_join_343 : decode cX10_join 343 = .ok (.getfield 146, 3) := by decide +kernel
theorem dX10_join_346 : decode cX10_join 346 = .ok (.aload_n 0, 1) := by decide +kernel
theorem dX10_join_347 : decode cX10_join 347 = .ok (.getfield 152, 3) := by decide +kernel
theorem dX10_join_350 : decode cX10_join 350 = .ok (.aload_n 0, 1) := by decide +kernel
theorem dX10_join_351 : decode cX10_join 351 = .ok (.getfield 165, 3) := by decide +kernel
theorem dX10_join_354 : decode cX10_join 354 = .ok (.invokestatic 130, 3) := by decide +kernel
theorem dX10_join_357 : decode cX10_join 357 = .ok (.aload_n 0, 1) := by decide +kernel
theorem dX10_join_358 : decode cX10_join 358 = .ok (.aload_n 0, 1) := by decide +kernel
theorem dX10_join_359 : decode cX10_join 359 = .ok (.getfield 61, 3) := by decide +kernel
theorem dX10_join_362 : decode cX10_join 362 = .ok (.aload_n 0, 1) := by decide +kernel
theorem dX10_join_363 : decode cX10_join 363 = .ok (.getfield 158, 3) := by decide +kernel
theorem dX10_join_366 : decode cX10_join 366 = .ok (.aload_n 0, 1) := by decide +kernel
theorem dX10_join_367 : decode cX10_join 367 = .ok (.getfield 165, 3) := by decide +kernel
theorem dX10_join_370 : decode cX10_join 370 = .ok (.aload_n 0, 1) := by decide +kernel
theorem dX10_join_371 : decode cX10_join 371 = .ok (.getfield 165, 3) := by decide +kernel
theorem dX10_join_374 : decode cX10_join 374 = .ok (.invokevirtual 102, 3) := by decide +kernel
theorem dX10_join_377 : decode cX10_join 377 = .ok (.aload_n 0, 1) := by decide +kernel
theorem dX10_join_378 : decode cX10_join 378 = .ok (.getfield 61, 3) := by decide +kernel
theorem dX10_join_381 : decode cX10_join 381 = .ok (.aload_n 0, 1) := by decide +kernel
theorem dX10_join_382 : decode cX10_join 382 = .ok (.getfield 165, 3) := by decide +kernel
theorem dX10_join_385 : decode cX10_join 385 = .ok (.aload_n 1, 1) := by decide +kernel
theorem dX10_join_386 : decode cX10_join 386 = .ok (.getfield 149, 3) := by decide +kernel
theorem dX10_join_389 : decode cX10_join 389 = .ok (.aload_n 0, 1) := by decide +kernel
theorem dX10_join_390 : decode cX10_join 390 = .ok (.getfield 165, 3) := by decide +kernel
theorem dX10_join_393 : decode cX10_join 393 = .ok (.invokestatic 130, 3) := by decide +kernel
theorem dX10_join_396 : decode cX10_join 396 = .ok (.aload_n 0, 1) := by decide +kernel
theorem dX10_join_397 : decode cX10_join 397 = .ok (.getfield 152, 3) := by decide +kernel
theorem dX10_join_400 : decode cX10_join 400 = .ok (.aload_n 3, 1) := by decide +kernel
theorem dX10_join_401 : decode cX10_join 401 = .ok (.getfield 146, 3) := by decide +kernel
theorem dX10_join_404 : decode cX10_join 404 = .ok (.bipush 12, 2) := by decide +kernel
theorem dX10_join_406 : decode cX10_join 406 = .ok (.invokestatic 91, 3) := by decide +kernel
theorem dX10_join_409 : decode cX10_join 409 = .ok (.aload_n 0, 1) := by decide +kernel
theorem dX10_join_410 : decode cX10_join 410 = .ok (.getfield 165, 3) := by decide +kernel
theorem dX10_join_413 : decode cX10_join 413 = .ok (.aload_n 3, 1) := by decide +kernel
theorem dX10_join_414 : decode cX10_join 414 = .ok (.getfield 149, 3) := by decide +kernel
theorem dX10_join_417 : decode cX10_join 417 = .ok (.bipush 12, 2) := by decide +kernel
theorem dX10_join_419 : decode cX10_join 419 = .ok (.invokestatic 91, 3) := by decide +kernel
theorem dX10_join_422 : decode cX10_join 422 = .ok (.aload_n 3, 1) := by decide +kernel
theorem dX10_join_423 : decode cX10_join 423 = .ok (.iconst 0, 1) := by decide +kernel
theorem dX10_join_424 : decode cX10_join 424 = .ok (.putfield 136, 3) := by decide +kernel
theorem dX10_join_427 : decode cX10_join 427 = .ok (.return_, 1) := by decide +kernel
abbrev cX10_blindsTwo : ByteArray := prog_15_method_86_code
def yX10_blindsTwo : MethodName := ⟨RX10, "blindsTwo", "(II)Z"⟩
theorem dX10_blindsTwo_0 : decode cX10_blindsTwo 0 = .ok (.aload_n 0, 1) := by decide +kernel
theorem dX10_blindsTwo_1 : decode cX10_blindsTwo 1 = .ok (.getfield 503, 3) := by decide +kernel
theorem dX10_blindsTwo_4 : decode cX10_blindsTwo 4 = .ok (.iload_n 1, 1) := by decide +kernel
theorem dX10_blindsTwo_5 : decode cX10_blindsTwo 5 = .ok (.aaload, 1) := by decide +kernel
theorem dX10_blindsTwo_6 : decode cX10_blindsTwo 6 = .ok (.astore_n 3, 1) := by decide +kernel
theorem dX10_blindsTwo_7 : decode cX10_blindsTwo 7 = .ok (.aload_n 0, 1) := by decide +kernel
theorem dX10_blindsTwo_8 : decode cX10_blindsTwo 8 = .ok (.getfield 534, 3) := by decide +kernel
theorem dX10_blindsTwo_11 : decode cX10_blindsTwo 11 = .ok (.bipush 64, 2) := by decide +kernel
theorem dX10_blindsTwo_13 : decode cX10_blindsTwo 13 = .ok (.aload_n 0, 1) := by decide +kernel
theorem dX10_blindsTwo_14 : decode cX10_blindsTwo 14 = .ok (.getfield 513, 3) := by decide +kernel
theorem dX10_blindsTwo_17 : decode cX10_blindsTwo 17 = .ok (.iload_n 1, 1) := by decide +kernel
theorem dX10_blindsTwo_18 : decode cX10_blindsTwo 18 = .ok (.iaload, 1) := by decide +kernel
theorem dX10_blindsTwo_19 : decode cX10_blindsTwo 19 = .ok (.iadd, 1) := by decide +kernel
theorem dX10_blindsTwo_20 : decode cX10_blindsTwo 20 = .ok (.aload_n 0, 1) := by decide +kernel
theorem dX10_blindsTwo_21 : decode cX10_blindsTwo 21 = .ok (.getfield 510, 3) := by decide +kernel
theorem dX10_blindsTwo_24 : decode cX10_blindsTwo 24 = .ok (.iload_n 1, 1) := by decide +kernel
theorem dX10_blindsTwo_25 : decode cX10_blindsTwo 25 = .ok (.iaload, 1) := by decide +kernel
theorem dX10_blindsTwo_26 : decode cX10_blindsTwo 26 = .ok (.aload_n 0, 1) := by decide +kernel
theorem dX10_blindsTwo_27 : decode cX10_blindsTwo 27 = .ok (.getfield 549, 3) := by decide +kernel
theorem dX10_blindsTwo_30 : decode cX10_blindsTwo 30 = .ok (.aload_n 3, 1) := by decide +kernel
theorem dX10_blindsTwo_31 : decode cX10_blindsTwo 31 = .ok (.getfield 13, 3) := by decide +kernel
theorem dX10_blindsTwo_34 : decode cX10_blindsTwo 34 = .ok (.invokestatic 217, 3) := by decide +kernel
theorem dX10_blindsTwo_37 : decode cX10_blindsTwo 37 = .ok (.aload_n 0, 1) := by decide +kernel
theorem dX10_blindsTwo_38 : decode cX10_blindsTwo 38 = .ok (.getfield 549, 3) := by decide +kernel
theorem dX10_blindsTwo_41 : decode cX10_blindsTwo 41 = .ok (.aload_n 3, 1) := by decide +kernel
theorem dX10_blindsTwo_42 : decode cX10_blindsTwo 42 = .ok (.getfield 13, 3) := by decide +kernel
theorem dX10_blindsTwo_45 : decode cX10_blindsTwo 45 = .ok (.invokestatic 122, 3) := by decide +kernel
theorem dX10_blindsTwo_48 : decode cX10_blindsTwo 48 = .ok (.ifCond .ne 37, 3) := by decide +kernel
theorem dX10_blindsTwo_51 : decode cX10_blindsTwo 51 = .ok (.aload_n 0, 1) := by decide +kernel
theorem dX10_blindsTwo_52 : decode cX10_blindsTwo 52 = .ok (.getfield 549, 3) := by decide +kernel
theorem dX10_blindsTwo_55 : decode cX10_blindsTwo 55 = .ok (.aload_n 3, 1) := by decide +kernel
theorem dX10_blindsTwo_56 : decode cX10_blindsTwo 56 = .ok (.getfield 22, 3) := by decide +kernel
theorem dX10_blindsTwo_59 : decode cX10_blindsTwo 59 = .ok (.aload_n 3, 1) := by decide +kernel
theorem dX10_blindsTwo_60 : decode cX10_blindsTwo 60 = .ok (.getfield 13, 3) := by decide +kernel
theorem dX10_blindsTwo_63 : decode cX10_blindsTwo 63 = .ok (.invokestatic 26, 3) := by decide +kernel
theorem dX10_blindsTwo_66 : decode cX10_blindsTwo 66 = .ok (.ifCond .ge 19, 3) := by decide +kernel
theorem dX10_blindsTwo_69 : decode cX10_blindsTwo 69 = .ok (.aload_n 0, 1) := by decide +kernel
theorem dX10_blindsTwo_70 : decode cX10_blindsTwo 70 = .ok (.aload_n 3, 1) := by decide +kernel
theorem dX10_blindsTwo_71 : decode cX10_blindsTwo 71 = .ok (.aload_n 0, 1) := by decide +kernel
theorem dX10_blindsTwo_72 : decode cX10_blindsTwo 72 = .ok (.getfield 549, 3) := by decide +kernel
theorem dX10_blindsTwo_75 : decode cX10_blindsTwo 75 = .ok (.aload_n 0, 1) := by decide +kernel
theorem dX10_blindsTwo_76 : decode cX10_blindsTwo 76 = .ok (.getfield 555, 3) := by decide +kernel
theorem dX10_blindsTwo_79 : decode cX10_blindsTwo 79 = .ok (.invokevirtual 161, 3) := by decide +kernel
theorem dX10_blindsTwo_82 : decode cX10_blindsTwo 82 = .ok (.ifCond .ne 5, 3) := by decide +kernel
theorem dX10_blindsTwo_85 : decode cX10_blindsTwo 85 = .ok (.iconst 0, 1) := by decide +kernel
theorem dX10_blindsTwo_86 : decode cX10_blindsTwo 86 = .ok (.ireturn, 1) := by decide +kernel
theorem dX10_blindsTwo_87 : decode cX10_blindsTwo 87 = .ok (.aload_n 0, 1) := by decide +kernel
theorem dX10_blindsTwo_88 : decode cX10_blindsTwo 88 = .ok (.getfield 549, 3) := by decide +kernel
theorem dX10_blindsTwo_91 : decode cX10_blindsTwo 91 = .ok (.aload_n 0, 1) := by decide +kernel
theorem dX10_blindsTwo_92 : decode cX10_blindsTwo 92 = .ok (.getfield 525, 3) := by decide +kernel
theorem dX10_blindsTwo_95 : decode cX10_blindsTwo 95 = .ok (.aload_n 0, 1) := by decide +kernel
theorem dX10_blindsTwo_96 : decode cX10_blindsTwo 96 = .ok (.getfield 640, 3) := by decide +kernel
theorem dX10_blindsTwo_99 : decode cX10_blindsTwo 99 = .ok (.aaload, 1) := by decide +kernel
theorem dX10_blindsTwo_100 : decode cX10_blindsTwo 100 = .ok (.aload_n 3, 1) := by decide +kernel
theorem dX10_blindsTwo_101 : decode cX10_blindsTwo 101 = .ok (.getfield 13, 3) := by decide +kernel
theorem dX10_blindsTwo_104 : decode cX10_blindsTwo 104 = .ok (.invokestatic 91, 3) := by decide +kernel
theorem dX10_blindsTwo_107 : decode cX10_blindsTwo 107 = .ok (.aload_n 0, 1) := by decide +kernel
theorem dX10_blindsTwo_108 : decode cX10_blindsTwo 108 = .ok (.iload_n 1, 1) := by decide +kernel
theorem dX10_blindsTwo_109 : decode cX10_blindsTwo 109 = .ok (.aload_n 0, 1) := by decide +kernel
theorem dX10_blindsTwo_110 : decode cX10_blindsTwo 110 = .ok (.getfield 522, 3) := by decide +kernel
theorem dX10_blindsTwo_113 : decode cX10_blindsTwo 113 = .ok (.iload_n 2, 1) := by decide +kernel
theorem dX10_blindsTwo_114 : decode cX10_blindsTwo 114 = .ok (.aload_n 0, 1) := by decide +kernel
theorem dX10_blindsTwo_115 : decode cX10_blindsTwo 115 = .ok (.getfield 534, 3) := by decide +kernel
theorem dX10_blindsTwo_118 : decode cX10_blindsTwo 118 = .ok (.bipush 64, 2) := by decide +kernel
theorem dX10_blindsTwo_120 : decode cX10_blindsTwo 120 = .ok (.aload_n 0, 1) := by decide +kernel
theorem dX10_blindsTwo_121 : decode cX10_blindsTwo 121 = .ok (.getfield 549, 3) := by decide +kernel
theorem dX10_blindsTwo_124 : decode cX10_blindsTwo 124 = .ok (.invokevirtual 654, 3) := by decide +kernel
theorem dX10_blindsTwo_127 : decode cX10_blindsTwo 127 = .ok (.aload_n 0, 1) := by decide +kernel
theorem dX10_blindsTwo_128 : decode cX10_blindsTwo 128 = .ok (.getfield 549, 3) := by decide +kernel
theorem dX10_blindsTwo_131 : decode cX10_blindsTwo 131 = .ok (.aload_n 3, 1) := by decide +kernel
theorem dX10_blindsTwo_132 : decode cX10_blindsTwo 132 = .ok (.getfield 22, 3) := by decide +kernel
theorem dX10_blindsTwo_135 : decode cX10_blindsTwo 135 = .ok (.aload_n 3, 1) := by decide +kernel
theorem dX10_blindsTwo_136 : decode cX10_blindsTwo 136 = .ok (.getfield 13, 3) := by decide +kernel
theorem dX10_blindsTwo_139 : decode cX10_blindsTwo 139 = .ok (.invokestatic 26, 3) := by decide +kernel
theorem dX10_blindsTwo_142 : decode cX10_blindsTwo 142 = .ok (.ifCond .ge 19, 3) := by decide +kernel
theorem dX10_blindsTwo_145 : decode cX10_blindsTwo 145 = .ok (.aload_n 0, 1) := by decide +kernel
theorem dX10_blindsTwo_146 : decode cX10_blindsTwo 146 = .ok (.aload_n 3, 1) := by decide +kernel
theorem dX10_blindsTwo_147 : decode cX10_blindsTwo 147 = .ok (.aload_n 0, 1) := by decide +kernel
theorem dX10_blindsTwo_148 : decode cX10_blindsTwo 148 = .ok (.getfield 549, 3) := by decide +kernel
theorem dX10_blindsTwo_151 : decode cX10_blindsTwo 151 = .ok (.aload_n 0, 1) := by decide +kernel
theorem dX10_blindsTwo_152 : decode cX10_blindsTwo 152 = .ok (.getfield 555, 3) := by decide +kernel
theorem dX10_blindsTwo_155 : decode cX10_blindsTwo 155 = .ok (.invokevirtual 161, 3) := by decide +kernel
theorem dX10_blindsTwo_158 : decode cX10_blindsTwo 158 = .ok (.ifCond .ne 5, 3) := by decide +kernel
theorem dX10_blindsTwo_161 : decode cX10_blindsTwo 161 = .ok (.iconst 0, 1) := by decide +kernel
theorem dX10_blindsTwo_162 : decode cX10_blindsTwo 162 = .ok (.ireturn, 1) := by decide +kernel
theorem dX10_blindsTwo_163 : decode cX10_blindsTwo 163 = .ok (.aload_n 0, 1) := by decide +kernel
theorem dX10_blindsTwo_164 : decode cX10_blindsTwo 164 = .ok (.iload_n 1, 1) := by decide +kernel
theorem dX10_blindsTwo_165 : decode cX10_blindsTwo 165 = .ok (.aload_n 0, 1) := by decide +kernel
theorem dX10_blindsTwo_166 : decode cX10_blindsTwo 166 = .ok (.getfield 525, 3) := by decide +kernel
theorem dX10_blindsTwo_169 : decode cX10_blindsTwo 169 = .ok (.aload_n 0, 1) := by decide +kernel
theorem dX10_blindsTwo_170 : decode cX10_blindsTwo 170 = .ok (.getfield 640, 3) := by decide +kernel
theorem dX10_blindsTwo_173 : decode cX10_blindsTwo 173 = .ok (.aaload, 1) := by decide +kernel
theorem dX10_blindsTwo_174 : decode cX10_blindsTwo 174 = .ok (.aload_n 0, 1) := by decide +kernel
theorem dX10_blindsTwo_175 : decode cX10_blindsTwo 175 = .ok (.getfield 552, 3) := by decide +kernel
theorem dX10_blindsTwo_178 : decode cX10_blindsTwo 178 = .ok (.invokevirtual 602, 3) := by decide +kernel
theorem dX10_blindsTwo_181 : decode cX10_blindsTwo 181 = .ok (.aload_n 0, 1) := by decide +kernel
theorem dX10_blindsTwo_182 : decode cX10_blindsTwo 182 = .ok (.aload_n 3, 1) := by decide +kernel
theorem dX10_blindsTwo_183 : decode cX10_blindsTwo 183 = .ok (.aload_n 0, 1) := by decide +kernel
theorem dX10_blindsTwo_184 : decode cX10_blindsTwo 184 = .ok (.getfield 552, 3) := by decide +kernel
theorem dX10_blindsTwo_187 : decode cX10_blindsTwo 187 = .ok (.aload_n 0, 1) := by decide +kernel
theorem dX10_blindsTwo_188 : decode cX10_blindsTwo 188 = .ok (.getfield 549, 3) := by decide +kernel
theorem dX10_blindsTwo_191 : decode cX10_blindsTwo 191 = .ok (.aload_n 0, 1) := by decide +kernel
theorem dX10_blindsTwo_192 : decode cX10_blindsTwo 192 = .ok (.getfield 552, 3) := by decide +kernel
theorem dX10_blindsTwo_195 : decode cX10_blindsTwo 195 = .ok (.invokevirtual 102, 3) := by decide +kernel
theorem dX10_blindsTwo_198 : decode cX10_blindsTwo 198 = .ok (.iconst 1, 1) := by decide +kernel
theorem dX10_blindsTwo_199 : decode cX10_blindsTwo 199 = .ok (.ireturn, 1) := by decide +kernel
abbrev cX10_encodes : ByteArray := prog_15_method_67_code
def yX10_encodes : MethodName := ⟨RX10, "encodes", "(I[BI[BI[I)V"⟩
theorem dX10_encodes_0 : decode cX10_encodes 0 = .ok (.aload_n 0, 1) := by decide +kernel
theorem dX10_encodes_1 : decode cX10_encodes 1 = .ok (.getfield 503, 3) := by decide +kernel
theorem dX10_encodes_4 : decode cX10_encodes 4 = .ok (.iload_n 1, 1) := by decide +kernel
