/-! VeilMint -/
set_option maxRecDepth 100000
def RX1 : String := "VeilMint"
def TX1 : u_T := fun k => match k with
  | 0 => ("VeilMint", "small", "LVeilMint$Digest256;", true)
  | 1 => ("VeilMint", "large", "LVeilMint$Digest384;", true)
  | 2 => ("VeilMint", "curve", "LVeilMint$Curve;", true)
  | 3 => ("VeilMint", "refusal", "LVeilMint$Refusal;", true)
  | 4 => ("VeilMint", "disk", "LVeilMint$Disk;", true)
  | 5 => ("VeilMint", "keys", "[LVeilMint$Key;", true)
  | 6 => ("VeilMint", "askings", "[LVeilMint$Asking;", true)
  | 7 => ("VeilMint", "tape", "[B", true)
  | 8 => ("VeilMint", "out", "[B", true)
  | 9 => ("VeilMint", "draft", "[B", true)
  | 10 => ("VeilMint", "taped", "I", false)
  | 11 => ("VeilMint", "outs", "I", false)
  | 12 => ("VeilMint", "keyMany", "I", false)
  | 13 => ("VeilMint", "askingMany", "I", false)
  | _ => ("VeilMint", "redeemed", "I", false)
def tyX1 : Nat → FieldType := fun k => match k with
  | 0 => .object "VeilMint$Digest256"
  | 1 => .object "VeilMint$Digest384"
  | 2 => .object "VeilMint$Curve"
  | 3 => .object "VeilMint$Refusal"
  | 4 => .object "VeilMint$Disk"
  | 5 => .array (.object "VeilMint$Key")
  | 6 => .array (.object "VeilMint$Asking")
  | 7 => .array .byte
  | 8 => .array .byte
  | 9 => .array .byte
  | 10 => .int
  | 11 => .int
  | 12 => .int
  | 13 => .int
  | _ => .int
abbrev wsX10 : List Cond := u_ws RX1 TX1 15
set_option maxRecDepth 100000 in
theorem nmX1 : ∀ a, a < 15 → ∀ b, b < 15 → a ≠ b → (TX1 a).2.1 ≠ (TX1 b).2.1 := by decide +kernel
set_option maxRecDepth 100000 in
theorem tyX1_ok : ∀ k, k < 15 → parseFieldDescriptor (TX1 k).2.2.1 = some (tyX1 k) := by decide +kernel
abbrev cX1_init : ByteArray := prog_1_method_2_code
def yX1_init : MethodName := ⟨RX1, "<init>", "()V"⟩
theorem dX1_init_0 : decode cX1_init 0 = .ok (.aload_n 0, 1) := by decide +kernel
theorem dX1_init_1 : decode cX1_init 1 = .ok (.invokespecial 11, 3) := by decide +kernel
theorem dX1_init_4 : decode cX1_init 4 = .ok (.aload_n 0, 1) := by decide +kernel
theorem dX1_init_5 : decode cX1_init 5 = .ok (.new 17, 3) := by decide +kernel
theorem dX1_init_8 : decode cX1_init 8 = .ok (.dup, 1) := by decide +kernel
theorem dX1_init_9 : decode cX1_init 9 = .ok (.invokespecial 19, 3) := by decide +kernel
theorem dX1_init_12 : decode cX1_init 12 = .ok (.putfield 20, 3) := by decide +kernel
theorem dX1_init_15 : decode cX1_init 15 = .ok (.aload_n 0, 1) := by decide +kernel
theorem dX1_init_16 : decode cX1_init 16 = .ok (.new 26, 3) := by decide +kernel
theorem dX1_init_19 : decode cX1_init 19 = .ok (.dup, 1) := by decide +kernel
theorem dX1_init_20 : decode cX1_init 20 = .ok (.invokespecial 28, 3) := by decide +kernel
theorem dX1_init_23 : decode cX1_init 23 = .ok (.putfield 29, 3) := by decide +kernel
theorem dX1_init_26 : decode cX1_init 26 = .ok (.aload_n 0, 1) := by decide +kernel
theorem dX1_init_27 : decode cX1_init 27 = .ok (.new 33, 3) := by decide +kernel
theorem dX1_init_30 : decode cX1_init 30 = .ok (.dup, 1) := by decide +kernel
theorem dX1_init_31 : decode cX1_init 31 = .ok (.aload_n 0, 1) := by decide +kernel
theorem dX1_init_32 : decode cX1_init 32 = .ok (.getfield 29, 3) := by decide +kernel
theorem dX1_init_35 : decode cX1_init 35 = .ok (.invokespecial 35, 3) := by decide +kernel
theorem dX1_init_38 : decode cX1_init 38 = .ok (.putfield 38, 3) := by decide +kernel
theorem dX1_init_41 : decode cX1_init 41 = .ok (.aload_n 0, 1) := by decide +kernel
theorem dX1_init_42 : decode cX1_init 42 = .ok (.new 42, 3) := by decide +kernel
theorem dX1_init_45 : decode cX1_init 45 = .ok (.dup, 1) := by decide +kernel
theorem dX1_init_46 : decode cX1_init 46 = .ok (.invokespecial 44, 3) := by decide +kernel
theorem dX1_init_49 : decode cX1_init 49 = .ok (.putfield 45, 3) := by decide +kernel
theorem dX1_init_52 : decode cX1_init 52 = .ok (.aload_n 0, 1) := by decide +kernel
theorem dX1_init_53 : decode cX1_init 53 = .ok (.new 49, 3) := by decide +kernel
theorem dX1_init_56 : decode cX1_init 56 = .ok (.dup, 1) := by decide +kernel
theorem dX1_init_57 : decode cX1_init 57 = .ok (.invokespecial 51, 3) := by decide +kernel
theorem dX1_init_60 : decode cX1_init 60 = .ok (.putfield 52, 3) := by decide +kernel
theorem dX1_init_63 : decode cX1_init 63 = .ok (.aload_n 0, 1) := by decide +kernel
theorem dX1_init_64 : decode cX1_init 64 = .ok (.bipush 6, 2) := by decide +kernel
theorem dX1_init_66 : decode cX1_init 66 = .ok (.anewarray 56, 3) := by decide +kernel
theorem dX1_init_69 : decode cX1_init 69 = .ok (.putfield 58, 3) := by decide +kernel
theorem dX1_init_72 : decode cX1_init 72 = .ok (.aload_n 0, 1) := by decide +kernel
theorem dX1_init_73 : decode cX1_init 73 = .ok (.bipush 60, 2) := by decide +kernel
theorem dX1_init_75 : decode cX1_init 75 = .ok (.anewarray 62, 3) := by decide +kernel
theorem dX1_init_78 : decode cX1_init 78 = .ok (.putfield 64, 3) := by decide +kernel
theorem dX1_init_81 : decode cX1_init 81 = .ok (.aload_n 0, 1) := by decide +kernel
theorem dX1_init_82 : decode cX1_init 82 = .ok (.sipush 1200, 3) := by decide +kernel
theorem dX1_init_85 : decode cX1_init 85 = .ok (.newarray .byte, 2) := by decide +kernel
theorem dX1_init_87 : decode cX1_init 87 = .ok (.putfield 68, 3) := by decide +kernel
theorem dX1_init_90 : decode cX1_init 90 = .ok (.aload_n 0, 1) := by decide +kernel
theorem dX1_init_91 : decode cX1_init 91 = .ok (.sipush 1200, 3) := by decide +kernel
theorem dX1_init_94 : decode cX1_init 94 = .ok (.newarray .byte, 2) := by decide +kernel
theorem dX1_init_96 : decode cX1_init 96 = .ok (.putfield 72, 3) := by decide +kernel
theorem dX1_init_99 : decode cX1_init 99 = .ok (.aload_n 0, 1) := by decide +kernel
theorem dX1_init_100 : decode cX1_init 100 = .ok (.sipush 1200, 3) := by decide +kernel
theorem dX1_init_103 : decode cX1_init 103 = .ok (.newarray .byte, 2) := by decide +kernel
theorem dX1_init_105 : decode cX1_init 105 = .ok (.putfield 75, 3) := by decide +kernel
theorem dX1_init_108 : decode cX1_init 108 = .ok (.return_, 1) := by decide +kernel
abbrev cX1_limbs : ByteArray := prog_1_method_1_code
def yX1_limbs : MethodName := ⟨RX1, "limbs", "(Ljava/lang/String;)[I"⟩
theorem dX1_limbs_0 : decode cX1_limbs 0 = .ok (.aload_n 0, 1) := by decide +kernel
theorem dX1_limbs_1 : decode cX1_limbs 1 = .ok (.invokevirtual 1, 3) := by decide +kernel
theorem dX1_limbs_4 : decode cX1_limbs 4 = .ok (.bipush 8, 2) := by decide +kernel
theorem dX1_limbs_6 : decode cX1_limbs 6 = .ok (.idiv, 1) := by decide +kernel
theorem dX1_limbs_7 : decode cX1_limbs 7 = .ok (.newarray .int, 2) := by decide +kernel
theorem dX1_limbs_9 : decode cX1_limbs 9 = .ok (.astore_n 1, 1) := by decide +kernel
theorem dX1_limbs_10 : decode cX1_limbs 10 = .ok (.iconst 0, 1) := by decide +kernel
theorem dX1_limbs_11 : decode cX1_limbs 11 = .ok (.istore_n 2, 1) := by decide +kernel
theorem dX1_limbs_12 : decode cX1_limbs 12 = .ok (.iload_n 2, 1) := by decide +kernel
theorem dX1_limbs_13 : decode cX1_limbs 13 = .ok (.aload_n 0, 1) := by decide +kernel
theorem dX1_limbs_14 : decode cX1_limbs 14 = .ok (.invokevirtual 1, 3) := by decide +kernel
theorem dX1_limbs_17 : decode cX1_limbs 17 = .ok (.if_icmp .ge 62, 3) := by decide +kernel
theorem dX1_limbs_20 : decode cX1_limbs 20 = .ok (.aload_n 0, 1) := by decide +kernel
theorem dX1_limbs_21 : decode cX1_limbs 21 = .ok (.iload_n 2, 1) := by decide +kernel
theorem dX1_limbs_22 : decode cX1_limbs 22 = .ok (.invokevirtual 7, 3) := by decide +kernel
theorem dX1_limbs_25 : decode cX1_limbs 25 = .ok (.istore_n 3, 1) := by decide +kernel
theorem dX1_limbs_26 : decode cX1_limbs 26 = .ok (.aload_n 0, 1) := by decide +kernel
theorem dX1_limbs_27 : decode cX1_limbs 27 = .ok (.invokevirtual 1, 3) := by decide +kernel
theorem dX1_limbs_30 : decode cX1_limbs 30 = .ok (.iconst 1, 1) := by decide +kernel
theorem dX1_limbs_31 : decode cX1_limbs 31 = .ok (.isub, 1) := by decide +kernel
theorem dX1_limbs_32 : decode cX1_limbs 32 = .ok (.iload_n 2, 1) := by decide +kernel
theorem dX1_limbs_33 : decode cX1_limbs 33 = .ok (.isub, 1) := by decide +kernel
theorem dX1_limbs_34 : decode cX1_limbs 34 = .ok (.istore 4, 2) := by decide +kernel
theorem dX1_limbs_36 : decode cX1_limbs 36 = .ok (.aload_n 1, 1) := by decide +kernel
theorem dX1_limbs_37 : decode cX1_limbs 37 = .ok (.iload 4, 2) := by decide +kernel
theorem dX1_limbs_39 : decode cX1_limbs 39 = .ok (.iconst 3, 1) := by decide +kernel
theorem dX1_limbs_40 : decode cX1_limbs 40 = .ok (.ishr, 1) := by decide +kernel
theorem dX1_limbs_41 : decode cX1_limbs 41 = .ok (.dup2, 1) := by decide +kernel
theorem dX1_limbs_42 : decode cX1_limbs 42 = .ok (.iaload, 1) := by decide +kernel
theorem dX1_limbs_43 : decode cX1_limbs 43 = .ok (.iload_n 3, 1) := by decide +kernel
theorem dX1_limbs_44 : decode cX1_limbs 44 = .ok (.bipush 97, 2) := by decide +kernel
theorem dX1_limbs_46 : decode cX1_limbs 46 = .ok (.if_icmp .ge 10, 3) := by decide +kernel
theorem dX1_limbs_49 : decode cX1_limbs 49 = .ok (.iload_n 3, 1) := by decide +kernel
theorem dX1_limbs_50 : decode cX1_limbs 50 = .ok (.bipush 48, 2) := by decide +kernel
theorem dX1_limbs_52 : decode cX1_limbs 52 = .ok (.isub, 1) := by decide +kernel
theorem dX1_limbs_53 : decode cX1_limbs 53 = .ok (.goto 10, 3) := by decide +kernel
theorem dX1_limbs_56 : decode cX1_limbs 56 = .ok (.iload_n 3, 1) := by decide +kernel
theorem dX1_limbs_57 : decode cX1_limbs 57 = .ok (.bipush 97, 2) := by decide +kernel
theorem dX1_limbs_59 : decode cX1_limbs 59 = .ok (.isub, 1) := by decide +kernel
theorem dX1_limbs_60 : decode cX1_limbs 60 = .ok (.bipush 10, 2) := by decide +kernel
theorem dX1_limbs_62 : decode cX1_limbs 62 = .ok (.iadd, 1) := by decide +kernel
theorem dX1_limbs_63 : decode cX1_limbs 63 = .ok (.iconst 4, 1) := by decide +kernel
theorem dX1_limbs_64 : decode cX1_limbs 64 = .ok (.iload 4, 2) := by decide +kernel
theorem dX1_limbs_66 : decode cX1_limbs 66 = .ok (.bipush 7, 2) := by decide +kernel
theorem dX1_limbs_68 : decode cX1_limbs 68 = .ok (.iand, 1) := by decide +kernel
theorem dX1_limbs_69 : decode cX1_limbs 69 = .ok (.imul, 1) := by decide +kernel
theorem dX1_limbs_70 : decode cX1_limbs 70 = .ok (.ishl, 1) := by decide +kernel
theorem dX1_limbs_71 : decode cX1_limbs 71 = .ok (.ior, 1) := by decide +kernel
theorem dX1_limbs_72 : decode cX1_limbs 72 = .ok (.iastore, 1) := by decide +kernel
theorem dX1_limbs_73 : decode cX1_limbs 73 = .ok (.iinc 2 1, 3) := by decide +kernel
theorem dX1_limbs_76 : decode cX1_limbs 76 = .ok (.goto (-64), 3) := by decide +kernel
theorem dX1_limbs_79 : decode cX1_limbs 79 = .ok (.aload_n 1, 1) := by decide +kernel
theorem dX1_limbs_80 : decode cX1_limbs 80 = .ok (.areturn, 1) := by decide +kernel
abbrev cX1_feed : ByteArray := prog_1_method_4_code
def yX1_feed : MethodName := ⟨RX1, "feed", "(IIIII)I"⟩
theorem dX1_feed_0 : decode cX1_feed 0 = .ok (.aload_n 0, 1) := by decide +kernel
theorem dX1_feed_1 : decode cX1_feed 1 = .ok (.getfield 78, 3) := by decide +kernel
theorem dX1_feed_4 : decode cX1_feed 4 = .ok (.bipush 20, 2) := by decide +kernel
theorem dX1_feed_6 : decode cX1_feed 6 = .ok (.iadd, 1) := by decide +kernel
theorem dX1_feed_7 : decode cX1_feed 7 = .ok (.sipush 1200, 3) := by decide +kernel
theorem dX1_feed_10 : decode cX1_feed 10 = .ok (.if_icmp .le 5, 3) := by decide +kernel
theorem dX1_feed_13 : decode cX1_feed 13 = .ok (.iconst (-1), 1) := by decide +kernel
theorem dX1_feed_14 : decode cX1_feed 14 = .ok (.ireturn, 1) := by decide +kernel
theorem dX1_feed_15 : decode cX1_feed 15 = .ok (.aload_n 0, 1) := by decide +kernel
theorem dX1_feed_16 : decode cX1_feed 16 = .ok (.iload_n 1, 1) := by decide +kernel
theorem dX1_feed_17 : decode cX1_feed 17 = .ok (.invokevirtual 82, 3) := by decide +kernel
theorem dX1_feed_20 : decode cX1_feed 20 = .ok (.aload_n 0, 1) := by decide +kernel
theorem dX1_feed_21 : decode cX1_feed 21 = .ok (.iload_n 2, 1) := by decide +kernel
theorem dX1_feed_22 : decode cX1_feed 22 = .ok (.invokevirtual 82, 3) := by decide +kernel
theorem dX1_feed_25 : decode cX1_feed 25 = .ok (.aload_n 0, 1) := by decide +kernel
theorem dX1_feed_26 : decode cX1_feed 26 = .ok (.iload_n 3, 1) := by decide +kernel
theorem dX1_feed_27 : decode cX1_feed 27 = .ok (.invokevirtual 82, 3) := by decide +kernel
theorem dX1_feed_30 : decode cX1_feed 30 = .ok (.aload_n 0, 1) := by decide +kernel
theorem dX1_feed_31 : decode cX1_feed 31 = .ok (.iload 4, 2) := by decide +kernel
theorem dX1_feed_33 : decode cX1_feed 33 = .ok (.invokevirtual 82, 3) := by decide +kernel
theorem dX1_feed_36 : decode cX1_feed 36 = .ok (.aload_n 0, 1) := by decide +kernel
theorem dX1_feed_37 : decode cX1_feed 37 = .ok (.iload 5, 2) := by decide +kernel
theorem dX1_feed_39 : decode cX1_feed 39 = .ok (.invokevirtual 82, 3) := by decide +kernel
theorem dX1_feed_42 : decode cX1_feed 42 = .ok (.aload_n 0, 1) := by decide +kernel
theorem dX1_feed_43 : decode cX1_feed 43 = .ok (.getfield 78, 3) := by decide +kernel
theorem dX1_feed_46 : decode cX1_feed 46 = .ok (.ireturn, 1) := by decide +kernel
abbrev cX1_four : ByteArray := prog_1_method_3_code
def yX1_four : MethodName := ⟨RX1, "four", "(I)V"⟩
theorem dX1_four_0 : decode cX1_four 0 = .ok (.bipush 24, 2) := by decide +kernel
theorem dX1_four_2 : decode cX1_four 2 = .ok (.istore_n 2, 1) := by decide +kernel
theorem dX1_four_3 : decode cX1_four 3 = .ok (.iload_n 2, 1) := by decide +kernel
theorem dX1_four_4 : decode cX1_four 4 = .ok (.ifCond .lt 32, 3) := by decide +kernel
theorem dX1_four_7 : decode cX1_four 7 = .ok (.aload_n 0, 1) := by decide +kernel
theorem dX1_four_8 : decode cX1_four 8 = .ok (.getfield 68, 3) := by decide +kernel
theorem dX1_four_11 : decode cX1_four 11 = .ok (.aload_n 0, 1) := by decide +kernel
theorem dX1_four_12 : decode cX1_four 12 = .ok (.getfield 78, 3) := by decide +kernel
theorem dX1_four_15 : decode cX1_four 15 = .ok (.iload_n 1, 1) := by decide +kernel
theorem dX1_four_16 : decode cX1_four 16 = .ok (.iload_n 2, 1) := by decide +kernel
theorem dX1_four_17 : decode cX1_four 17 = .ok (.ishr, 1) := by decide +kernel
theorem dX1_four_18 : decode cX1_four 18 = .ok (.i2b, 1) := by decide +kernel
theorem dX1_four_19 : decode cX1_four 19 = .ok (.bastore, 1) := by decide +kernel
theorem dX1_four_20 : decode cX1_four 20 = .ok (.aload_n 0, 1) := by decide +kernel
theorem dX1_four_21 : decode cX1_four 21 = .ok (.dup, 1) := by decide +kernel
theorem dX1_four_22 : decode cX1_four 22 = .ok (.getfield 78, 3) := by decide +kernel
theorem dX1_four_25 : decode cX1_four 25 = .ok (.iconst 1, 1) := by decide +kernel
theorem dX1_four_26 : decode cX1_four 26 = .ok (.iadd, 1) := by decide +kernel
theorem dX1_four_27 : decode cX1_four 27 = .ok (.putfield 78, 3) := by decide +kernel
theorem dX1_four_30 : decode cX1_four 30 = .ok (.iinc 2 (-8), 3) := by decide +kernel
theorem dX1_four_33 : decode cX1_four 33 = .ok (.goto (-30), 3) := by decide +kernel
theorem dX1_four_36 : decode cX1_four 36 = .ok (.return_, 1) := by decide +kernel
abbrev cX1_end : ByteArray := prog_1_method_5_code
def yX1_end : MethodName := ⟨RX1, "end", "(I)Z"⟩
theorem dX1_end_0 : decode cX1_end 0 = .ok (.iload_n 1, 1) := by decide +kernel
theorem dX1_end_1 : decode cX1_end 1 = .ok (.ifCond .lt 11, 3) := by decide +kernel
theorem dX1_end_4 : decode cX1_end 4 = .ok (.iload_n 1, 1) := by decide +kernel
theorem dX1_end_5 : decode cX1_end 5 = .ok (.aload_n 0, 1) := by decide +kernel
theorem dX1_end_6 : decode cX1_end 6 = .ok (.getfield 78, 3) := by decide +kernel
theorem dX1_end_9 : decode cX1_end 9 = .ok (.if_icmp .le 5, 3) := by decide +kernel
theorem dX1_end_12 : decode cX1_end 12 = .ok (.iconst 0, 1) := by decide +kernel
theorem dX1_end_13 : decode cX1_end 13 = .ok (.ireturn, 1) := by decide +kernel
theorem dX1_end_14 : decode cX1_end 14 = .ok (.aload_n 0, 1) := by decide +kernel
theorem dX1_end_15 : decode cX1_end 15 = .ok (.iload_n 1, 1) := by decide +kernel
theorem dX1_end_16 : decode cX1_end 16 = .ok (.putfield 78, 3) := by decide +kernel
theorem dX1_end_19 : decode cX1_end 19 = .ok (.iconst 1, 1) := by decide +kernel
theorem dX1_end_20 : decode cX1_end 20 = .ok (.ireturn, 1) := by decide +kernel
abbrev cX1_again : ByteArray := prog_1_method_6_code
def yX1_again : MethodName := ⟨RX1, "again", "(II)I"⟩
theorem dX1_again_0 : decode cX1_again 0 = .ok (.iload_n 1, 1) := by decide +kernel
theorem dX1_again_1 : decode cX1_again 1 = .ok (.ifCond .lt 37, 3) := by decide +kernel
theorem dX1_again_4 : decode cX1_again 4 = .ok (.iload_n 2, 1) := by decide +kernel
theorem dX1_again_5 : decode cX1_again 5 = .ok (.ifCond .lt 33, 3) := by decide +kernel
theorem dX1_again_8 : decode cX1_again 8 = .ok (.iload_n 1, 1) := by decide +kernel
theorem dX1_again_9 : decode cX1_again 9 = .ok (.aload_n 0, 1) := by decide +kernel
theorem dX1_again_10 : decode cX1_again 10 = .ok (.getfield 86, 3) := by decide +kernel
theorem dX1_again_13 : decode cX1_again 13 = .ok (.if_icmp .gt 25, 3) := by decide +kernel
theorem dX1_again_16 : decode cX1_again 16 = .ok (.iload_n 2, 1) := by decide +kernel
theorem dX1_again_17 : decode cX1_again 17 = .ok (.aload_n 0, 1) := by decide +kernel
theorem dX1_again_18 : decode cX1_again 18 = .ok (.getfield 86, 3) := by decide +kernel
theorem dX1_again_21 : decode cX1_again 21 = .ok (.iload_n 1, 1) := by decide +kernel
theorem dX1_again_22 : decode cX1_again 22 = .ok (.isub, 1) := by decide +kernel
theorem dX1_again_23 : decode cX1_again 23 = .ok (.if_icmp .gt 15, 3) := by decide +kernel
theorem dX1_again_26 : decode cX1_again 26 = .ok (.aload_n 0, 1) := by decide +kernel
theorem dX1_again_27 : decode cX1_again 27 = .ok (.getfield 78, 3) := by decide +kernel
theorem dX1_again_30 : decode cX1_again 30 = .ok (.iload_n 2, 1) := by decide +kernel
theorem dX1_again_31 : decode cX1_again 31 = .ok (.iadd, 1) := by decide +kernel
theorem dX1_again_32 : decode cX1_again 32 = .ok (.sipush 1200, 3) := by decide +kernel
theorem dX1_again_35 : decode cX1_again 35 = .ok (.if_icmp .le 5, 3) := by decide +kernel
theorem dX1_again_38 : decode cX1_again 38 = .ok (.iconst (-1), 1) := by decide +kernel
theorem dX1_again_39 : decode cX1_again 39 = .ok (.ireturn, 1) := by decide +kernel
theorem dX1_again_40 : decode cX1_again 40 = .ok (.aload_n 0, 1) := by decide +kernel
theorem dX1_again_41 : decode cX1_again 41 = .ok (.getfield 72, 3) := by decide +kernel
theorem dX1_again_44 : decode cX1_again 44 = .ok (.iload_n 1, 1) := by decide +kernel
theorem dX1_again_45 : decode cX1_again 45 = .ok (.aload_n 0, 1) := by decide +kernel
theorem dX1_again_46 : decode cX1_again 46 = .ok (.getfield 68, 3) := by decide +kernel
theorem dX1_again_49 : decode cX1_again 49 = .ok (.aload_n 0, 1) := by decide +kernel
theorem dX1_again_50 : decode cX1_again 50 = .ok (.getfield 78, 3) := by decide +kernel
theorem dX1_again_53 : decode cX1_again 53 = .ok (.iload_n 2, 1) := by decide +kernel
theorem dX1_again_54 : decode cX1_again 54 = .ok (.invokestatic 89, 3) := by decide +kernel
theorem dX1_again_57 : decode cX1_again 57 = .ok (.aload_n 0, 1) := by decide +kernel
theorem dX1_again_58 : decode cX1_again 58 = .ok (.dup, 1) := by decide +kernel
theorem dX1_again_59 : decode cX1_again 59 = .ok (.getfield 78, 3) := by decide +kernel
theorem dX1_again_62 : decode cX1_again 62 = .ok (.iload_n 2, 1) := by decide +kernel
theorem dX1_again_63 : decode cX1_again 63 = .ok (.iadd, 1) := by decide +kernel
theorem dX1_again_64 : decode cX1_again 64 = .ok (.putfield 78, 3) := by decide +kernel
theorem dX1_again_67 : decode cX1_again 67 = .ok (.aload_n 0, 1) := by decide +kernel
theorem dX1_again_68 : decode cX1_again 68 = .ok (.getfield 78, 3) := by decide +kernel
theorem dX1_again_71 : decode cX1_again 71 = .ok (.ireturn, 1) := by decide +kernel
abbrev cX1_out : ByteArray := prog_1_method_7_code
def yX1_out : MethodName := ⟨RX1, "out", "(I)I"⟩
theorem dX1_out_0 : decode cX1_out 0 = .ok (.iload_n 1, 1) := by decide +kernel
theorem dX1_out_1 : decode cX1_out 1 = .ok (.ifCond .lt 11, 3) := by decide +kernel
theorem dX1_out_4 : decode cX1_out 4 = .ok (.iload_n 1, 1) := by decide +kernel
theorem dX1_out_5 : decode cX1_out 5 = .ok (.aload_n 0, 1) := by decide +kernel
theorem dX1_out_6 : decode cX1_out 6 = .ok (.getfield 86, 3) := by decide +kernel
theorem dX1_out_9 : decode cX1_out 9 = .ok (.if_icmp .lt 7, 3) := by decide +kernel
theorem dX1_out_12 : decode cX1_out 12 = .ok (.iconst (-1), 1) := by decide +kernel
theorem dX1_out_13 : decode cX1_out 13 = .ok (.goto 13, 3) := by decide +kernel
theorem dX1_out_16 : decode cX1_out 16 = .ok (.aload_n 0, 1) := by decide +kernel
theorem dX1_out_17 : decode cX1_out 17 = .ok (.getfield 72, 3) := by decide +kernel
theorem dX1_out_20 : decode cX1_out 20 = .ok (.iload_n 1, 1) := by decide +kernel
theorem dX1_out_21 : decode cX1_out 21 = .ok (.baload, 1) := by decide +kernel
theorem dX1_out_22 : decode cX1_out 22 = .ok (.sipush 255, 3) := by decide +kernel
theorem dX1_out_25 : decode cX1_out 25 = .ok (.iand, 1) := by decide +kernel
theorem dX1_out_26 : decode cX1_out 26 = .ok (.ireturn, 1) := by decide +kernel
abbrev cX1_outs : ByteArray := prog_1_method_8_code
def yX1_outs : MethodName := ⟨RX1, "outs", "()I"⟩
theorem dX1_outs_0 : decode cX1_outs 0 = .ok (.aload_n 0, 1) := by decide +kernel
theorem dX1_outs_1 : decode cX1_outs 1 = .ok (.getfield 86, 3) := by decide +kernel
theorem dX1_outs_4 : decode cX1_outs 4 = .ok (.ireturn, 1) := by decide +kernel
abbrev cX1_key : ByteArray := prog_1_method_12_code
def yX1_key : MethodName := ⟨RX1, "key", "(I)I"⟩
theorem dX1_key_0 : decode cX1_key 0 = .ok (.aload_n 0, 1) := by decide +kernel
theorem dX1_key_1 : decode cX1_key 1 = .ok (.invokevirtual 101, 3) := by decide +kernel
theorem dX1_key_4 : decode cX1_key 4 = .ok (.istore_n 2, 1) := by decide +kernel
theorem dX1_key_5 : decode cX1_key 5 = .ok (.iload_n 1, 1) := by decide +kernel
theorem dX1_key_6 : decode cX1_key 6 = .ok (.iconst 1, 1) := by decide +kernel
theorem dX1_key_7 : decode cX1_key 7 = .ok (.if_icmp .eq 8, 3) := by decide +kernel
theorem dX1_key_10 : decode cX1_key 10 = .ok (.iload_n 1, 1) := by decide +kernel
theorem dX1_key_11 : decode cX1_key 11 = .ok (.iconst 2, 1) := by decide +kernel
theorem dX1_key_12 : decode cX1_key 12 = .ok (.if_icmp .ne 24, 3) := by decide +kernel
theorem dX1_key_15 : decode cX1_key 15 = .ok (.iload_n 1, 1) := by decide +kernel
theorem dX1_key_16 : decode cX1_key 16 = .ok (.iconst 1, 1) := by decide +kernel
theorem dX1_key_17 : decode cX1_key 17 = .ok (.if_icmp .ne 12, 3) := by decide +kernel
theorem dX1_key_20 : decode cX1_key 20 = .ok (.iload_n 2, 1) := by decide +kernel
theorem dX1_key_21 : decode cX1_key 21 = .ok (.bipush 48, 2) := by decide +kernel
theorem dX1_key_23 : decode cX1_key 23 = .ok (.if_icmp .eq 16, 3) := by decide +kernel
theorem dX1_key_26 : decode cX1_key 26 = .ok (.goto 10, 3) := by decide +kernel
theorem dX1_key_29 : decode cX1_key 29 = .ok (.iload_n 2, 1) := by decide +kernel
theorem dX1_key_30 : decode cX1_key 30 = .ok (.sipush 136, 3) := by decide +kernel
theorem dX1_key_33 : decode cX1_key 33 = .ok (.if_icmp .ge 6, 3) := by decide +kernel
theorem dX1_key_36 : decode cX1_key 36 = .ok (.bipush (-2), 2) := by decide +kernel
theorem dX1_key_38 : decode cX1_key 38 = .ok (.ireturn, 1) := by decide +kernel
theorem dX1_key_39 : decode cX1_key 39 = .ok (.iload_n 1, 1) := by decide +kernel
theorem dX1_key_40 : decode cX1_key 40 = .ok (.iconst 1, 1) := by decide +kernel
theorem dX1_key_41 : decode cX1_key 41 = .ok (.if_icmp .ne 25, 3) := by decide +kernel
theorem dX1_key_44 : decode cX1_key 44 = .ok (.new 104, 3) := by decide +kernel
theorem dX1_key_47 : decode cX1_key 47 = .ok (.dup, 1) := by decide +kernel
theorem dX1_key_48 : decode cX1_key 48 = .ok (.aload_n 0, 1) := by decide +kernel
theorem dX1_key_49 : decode cX1_key 49 = .ok (.getfield 38, 3) := by decide +kernel
theorem dX1_key_52 : decode cX1_key 52 = .ok (.aload_n 0, 1) := by decide +kernel
theorem dX1_key_53 : decode cX1_key 53 = .ok (.getfield 45, 3) := by decide +kernel
theorem dX1_key_56 : decode cX1_key 56 = .ok (.aload_n 0, 1) := by decide +kernel
theorem dX1_key_57 : decode cX1_key 57 = .ok (.getfield 68, 3) := by decide +kernel
theorem dX1_key_60 : decode cX1_key 60 = .ok (.invokespecial 106, 3) := by decide +kernel
theorem dX1_key_63 : decode cX1_key 63 = .ok (.goto 23, 3) := by decide +kernel
theorem dX1_key_66 : decode cX1_key 66 = .ok (.new 109, 3) := by decide +kernel
theorem dX1_key_69 : decode cX1_key 69 = .ok (.dup, 1) := by decide +kernel
theorem dX1_key_70 : decode cX1_key 70 = .ok (.aload_n 0, 1) := by decide +kernel
theorem dX1_key_71 : decode cX1_key 71 = .ok (.getfield 29, 3) := by decide +kernel
theorem dX1_key_74 : decode cX1_key 74 = .ok (.aload_n 0, 1) := by decide +kernel
theorem dX1_key_75 : decode cX1_key 75 = .ok (.getfield 45, 3) := by decide +kernel
theorem dX1_key_78 : decode cX1_key 78 = .ok (.aload_n 0, 1) := by decide +kernel
theorem dX1_key_79 : decode cX1_key 79 = .ok (.getfield 68, 3) := by decide +kernel
theorem dX1_key_82 : decode cX1_key 82 = .ok (.iload_n 2, 1) := by decide +kernel
theorem dX1_key_83 : decode cX1_key 83 = .ok (.invokespecial 111, 3) := by decide +kernel
theorem dX1_key_86 : decode cX1_key 86 = .ok (.astore_n 3, 1) := by decide +kernel
theorem dX1_key_87 : decode cX1_key 87 = .ok (.goto 11, 3) := by decide +kernel
theorem dX1_key_90 : decode cX1_key 90 = .ok (.astore 4, 2) := by decide +kernel
theorem dX1_key_92 : decode cX1_key 92 = .ok (.aload 4, 2) := by decide +kernel
theorem dX1_key_94 : decode cX1_key 94 = .ok (.getfield 114, 3) := by decide +kernel
theorem dX1_key_97 : decode cX1_key 97 = .ok (.ireturn, 1) := by decide +kernel
theorem dX1_key_98 : decode cX1_key 98 = .ok (.aload_n 0, 1) := by decide +kernel
theorem dX1_key_99 : decode cX1_key 99 = .ok (.getfield 95, 3) := by decide +kernel
theorem dX1_key_102 : decode cX1_key 102 = .ok (.bipush 6, 2) := by decide +kernel
theorem dX1_key_104 : decode cX1_key 104 = .ok (.if_icmp .ne 6, 3) := by decide +kernel
theorem dX1_key_107 : decode cX1_key 107 = .ok (.bipush (-6), 2) := by decide +kernel
theorem dX1_key_109 : decode cX1_key 109 = .ok (.ireturn, 1) := by decide +kernel
theorem dX1_key_110 : decode cX1_key 110 = .ok (.aload_n 3, 1) := by decide +kernel
theorem dX1_key_111 : decode cX1_key 111 = .ok (.aload_n 0, 1) := by decide +kernel
theorem dX1_key_112 : decode cX1_key 112 = .ok (.getfield 75, 3) := by decide +kernel
theorem dX1_key_115 : decode cX1_key 115 = .ok (.invokevirtual 117, 3) := by decide +kernel
theorem dX1_key_118 : decode cX1_key 118 = .ok (.aload_n 0, 1) := by decide +kernel
theorem dX1_key_119 : decode cX1_key 119 = .ok (.getfield 20, 3) := by decide +kernel
theorem dX1_key_122 : decode cX1_key 122 = .ok (.invokevirtual 121, 3) := by decide +kernel
theorem dX1_key_125 : decode cX1_key 125 = .ok (.aload_n 0, 1) := by decide +kernel
theorem dX1_key_126 : decode cX1_key 126 = .ok (.getfield 75, 3) := by decide +kernel
theorem dX1_key_129 : decode cX1_key 129 = .ok (.iconst 0, 1) := by decide +kernel
theorem dX1_key_130 : decode cX1_key 130 = .ok (.aload_n 3, 1) := by decide +kernel
theorem dX1_key_131 : decode cX1_key 131 = .ok (.invokevirtual 125, 3) := by decide +kernel
theorem dX1_key_134 : decode cX1_key 134 = .ok (.invokevirtual 128, 3) := by decide +kernel
theorem dX1_key_137 : decode cX1_key 137 = .ok (.pop, 1) := by decide +kernel
theorem dX1_key_138 : decode cX1_key 138 = .ok (.iload_n 1, 1) := by decide +kernel
theorem dX1_key_139 : decode cX1_key 139 = .ok (.iconst 2, 1) := by decide +kernel
theorem dX1_key_140 : decode cX1_key 140 = .ok (.if_icmp .ne 19, 3) := by decide +kernel
theorem dX1_key_143 : decode cX1_key 143 = .ok (.aload_n 0, 1) := by decide +kernel
theorem dX1_key_144 : decode cX1_key 144 = .ok (.getfield 20, 3) := by decide +kernel
theorem dX1_key_147 : decode cX1_key 147 = .ok (.aload_n 0, 1) := by decide +kernel
theorem dX1_key_148 : decode cX1_key 148 = .ok (.getfield 68, 3) := by decide +kernel
theorem dX1_key_151 : decode cX1_key 151 = .ok (.iload_n 2, 1) := by decide +kernel
theorem dX1_key_152 : decode cX1_key 152 = .ok (.iconst 1, 1) := by decide +kernel
theorem dX1_key_153 : decode cX1_key 153 = .ok (.isub, 1) := by decide +kernel
theorem dX1_key_154 : decode cX1_key 154 = .ok (.baload, 1) := by decide +kernel
theorem dX1_key_155 : decode cX1_key 155 = .ok (.invokevirtual 134, 3) := by decide +kernel
theorem dX1_key_158 : decode cX1_key 158 = .ok (.pop, 1) := by decide +kernel
theorem dX1_key_159 : decode cX1_key 159 = .ok (.aload_n 0, 1) := by decide +kernel
theorem dX1_key_160 : decode cX1_key 160 = .ok (.getfield 20, 3) := by decide +kernel
theorem dX1_key_163 : decode cX1_key 163 = .ok (.invokevirtual 137, 3) := by decide +kernel
theorem dX1_key_166 : decode cX1_key 166 = .ok (.iconst 0, 1) := by decide +kernel
theorem dX1_key_167 : decode cX1_key 167 = .ok (.aload_n 3, 1) := by decide +kernel
theorem dX1_key_168 : decode cX1_key 168 = .ok (.getfield 141, 3) := by decide +kernel
theorem dX1_key_171 : decode cX1_key 171 = .ok (.iconst 0, 1) := by decide +kernel
theorem dX1_key_172 : decode cX1_key 172 = .ok (.bipush 32, 2) := by decide +kernel
theorem dX1_key_174 : decode cX1_key 174 = .ok (.invokestatic 89, 3) := by decide +kernel
theorem dX1_key_177 : decode cX1_key 177 = .ok (.aload_n 0, 1) := by decide +kernel
theorem dX1_key_178 : decode cX1_key 178 = .ok (.getfield 58, 3) := by decide +kernel
theorem dX1_key_181 : decode cX1_key 181 = .ok (.aload_n 0, 1) := by decide +kernel
theorem dX1_key_182 : decode cX1_key 182 = .ok (.getfield 95, 3) := by decide +kernel
theorem dX1_key_185 : decode cX1_key 185 = .ok (.aload_n 3, 1) := by decide +kernel
theorem dX1_key_186 : decode cX1_key 186 = .ok (.aastore, 1) := by decide +kernel
theorem dX1_key_187 : decode cX1_key 187 = .ok (.aload_n 0, 1) := by decide +kernel
theorem dX1_key_188 : decode cX1_key 188 = .ok (.dup, 1) := by decide +kernel
theorem dX1_key_189 : decode cX1_key 189 = .ok (.getfield 95, 3) := by decide +kernel
theorem dX1_key_192 : decode cX1_key 192 = .ok (.iconst 1, 1) := by decide +kernel
theorem dX1_key_193 : decode cX1_key 193 = .ok (.iadd, 1) := by decide +kernel
theorem dX1_key_194 : decode cX1_key 194 = .ok (.putfield 95, 3) := by decide +kernel
theorem dX1_key_197 : decode cX1_key 197 = .ok (.aload_n 0, 1) := by decide +kernel
theorem dX1_key_198 : decode cX1_key 198 = .ok (.getfield 95, 3) := by decide +kernel
theorem dX1_key_201 : decode cX1_key 201 = .ok (.iconst 1, 1) := by decide +kernel
theorem dX1_key_202 : decode cX1_key 202 = .ok (.isub, 1) := by decide +kernel
theorem dX1_key_203 : decode cX1_key 203 = .ok (.ireturn, 1) := by decide +kernel
abbrev cX1_use : ByteArray := prog_1_method_9_code
def yX1_use : MethodName := ⟨RX1, "use", "()I"⟩
theorem dX1_use_0 : decode cX1_use 0 = .ok (.aload_n 0, 1) := by decide +kernel
theorem dX1_use_1 : decode cX1_use 1 = .ok (.getfield 78, 3) := by decide +kernel
theorem dX1_use_4 : decode cX1_use 4 = .ok (.istore_n 1, 1) := by decide +kernel
theorem dX1_use_5 : decode cX1_use 5 = .ok (.aload_n 0, 1) := by decide +kernel
theorem dX1_use_6 : decode cX1_use 6 = .ok (.iconst 0, 1) := by decide +kernel
theorem dX1_use_7 : decode cX1_use 7 = .ok (.putfield 78, 3) := by decide +kernel
theorem dX1_use_10 : decode cX1_use 10 = .ok (.iload_n 1, 1) := by decide +kernel
theorem dX1_use_11 : decode cX1_use 11 = .ok (.ireturn, 1) := by decide +kernel
abbrev cX1_digest : ByteArray := prog_1_method_15_code
def yX1_digest : MethodName := ⟨RX1, "digest", "()I"⟩
theorem dX1_digest_0 : decode cX1_digest 0 = .ok (.aload_n 0, 1) := by decide +kernel
theorem dX1_digest_1 : decode cX1_digest 1 = .ok (.invokevirtual 101, 3) := by decide +kernel
theorem dX1_digest_4 : decode cX1_digest 4 = .ok (.istore_n 1, 1) := by decide +kernel
theorem dX1_digest_5 : decode cX1_digest 5 = .ok (.aload_n 0, 1) := by decide +kernel
theorem dX1_digest_6 : decode cX1_digest 6 = .ok (.getfield 20, 3) := by decide +kernel
theorem dX1_digest_9 : decode cX1_digest 9 = .ok (.invokevirtual 121, 3) := by decide +kernel
theorem dX1_digest_12 : decode cX1_digest 12 = .ok (.aload_n 0, 1) := by decide +kernel
theorem dX1_digest_13 : decode cX1_digest 13 = .ok (.getfield 68, 3) := by decide +kernel
theorem dX1_digest_16 : decode cX1_digest 16 = .ok (.iconst 0, 1) := by decide +kernel
theorem dX1_digest_17 : decode cX1_digest 17 = .ok (.iload_n 1, 1) := by decide +kernel
theorem dX1_digest_18 : decode cX1_digest 18 = .ok (.invokevirtual 128, 3) := by decide +kernel
theorem dX1_digest_21 : decode cX1_digest 21 = .ok (.invokevirtual 162, 3) := by decide +kernel
theorem dX1_digest_24 : decode cX1_digest 24 = .ok (.iconst 0, 1) := by decide +kernel
theorem dX1_digest_25 : decode cX1_digest 25 = .ok (.aload_n 0, 1) := by decide +kernel
theorem dX1_digest_26 : decode cX1_digest 26 = .ok (.getfield 75, 3) := by decide +kernel
theorem dX1_digest_29 : decode cX1_digest 29 = .ok (.iconst 0, 1) := by decide +kernel
theorem dX1_digest_30 : decode cX1_digest 30 = .ok (.bipush 32, 2) := by decide +kernel
theorem dX1_digest_32 : decode cX1_digest 32 = .ok (.invokestatic 89, 3) := by decide +kernel
theorem dX1_digest_35 : decode cX1_digest 35 = .ok (.aload_n 0, 1) := by decide +kernel
theorem dX1_digest_36 : decode cX1_digest 36 = .ok (.bipush 32, 2) := by decide +kernel
theorem dX1_digest_38 : decode cX1_digest 38 = .ok (.invokevirtual 152, 3) := by decide +kernel
theorem dX1_digest_41 : decode cX1_digest 41 = .ok (.ireturn, 1) := by decide +kernel
abbrev cX1_told : ByteArray := prog_1_method_10_code
def yX1_told : MethodName := ⟨RX1, "told", "(I)I"⟩
theorem dX1_told_0 : decode cX1_told 0 = .ok (.aload_n 0, 1) := by decide +kernel
theorem dX1_told_1 : decode cX1_told 1 = .ok (.getfield 75, 3) := by decide +kernel
theorem dX1_told_4 : decode cX1_told 4 = .ok (.iconst 0, 1) := by decide +kernel
theorem dX1_told_5 : decode cX1_told 5 = .ok (.aload_n 0, 1) := by decide +kernel
theorem dX1_told_6 : decode cX1_told 6 = .ok (.getfield 72, 3) := by decide +kernel
theorem dX1_told_9 : decode cX1_told 9 = .ok (.iconst 0, 1) := by decide +kernel
theorem dX1_told_10 : decode cX1_told 10 = .ok (.iload_n 1, 1) := by decide +kernel
theorem dX1_told_11 : decode cX1_told 11 = .ok (.invokestatic 89, 3) := by decide +kernel
theorem dX1_told_14 : decode cX1_told 14 = .ok (.aload_n 0, 1) := by decide +kernel
theorem dX1_told_15 : decode cX1_told 15 = .ok (.iload_n 1, 1) := by decide +kernel
theorem dX1_told_16 : decode cX1_told 16 = .ok (.putfield 86, 3) := by decide +kernel
theorem dX1_told_19 : decode cX1_told 19 = .ok (.iload_n 1, 1) := by decide +kernel
theorem dX1_told_20 : decode cX1_told 20 = .ok (.ireturn, 1) := by decide +kernel
abbrev cX1_request : ByteArray := prog_1_method_16_code
def yX1_request : MethodName := ⟨RX1, "request", "(I)I"⟩
theorem dX1_request_0 : decode cX1_request 0 = .ok (.aload_n 0, 1) := by decide +kernel
theorem dX1_request_1 : decode cX1_request 1 = .ok (.invokevirtual 101, 3) := by decide +kernel
theorem dX1_request_4 : decode cX1_request 4 = .ok (.istore_n 2, 1) := by decide +kernel
theorem dX1_request_5 : decode cX1_request 5 = .ok (.iload_n 1, 1) := by decide +kernel
theorem dX1_request_6 : decode cX1_request 6 = .ok (.ifCond .lt 23, 3) := by decide +kernel
theorem dX1_request_9 : decode cX1_request 9 = .ok (.iload_n 1, 1) := by decide +kernel
theorem dX1_request_10 : decode cX1_request 10 = .ok (.aload_n 0, 1) := by decide +kernel
theorem dX1_request_11 : decode cX1_request 11 = .ok (.getfield 95, 3) := by decide +kernel
theorem dX1_request_14 : decode cX1_request 14 = .ok (.if_icmp .ge 15, 3) := by decide +kernel
theorem dX1_request_17 : decode cX1_request 17 = .ok (.aload_n 0, 1) := by decide +kernel
theorem dX1_request_18 : decode cX1_request 18 = .ok (.getfield 58, 3) := by decide +kernel
theorem dX1_request_21 : decode cX1_request 21 = .ok (.iload_n 1, 1) := by decide +kernel
theorem dX1_request_22 : decode cX1_request 22 = .ok (.aaload, 1) := by decide +kernel
theorem dX1_request_23 : decode cX1_request 23 = .ok (.getfield 148, 3) := by decide +kernel
theorem dX1_request_26 : decode cX1_request 26 = .ok (.ifCond .ne 6, 3) := by decide +kernel
theorem dX1_request_29 : decode cX1_request 29 = .ok (.bipush (-3), 2) := by decide +kernel
theorem dX1_request_31 : decode cX1_request 31 = .ok (.ireturn, 1) := by decide +kernel
theorem dX1_request_32 : decode cX1_request 32 = .ok (.aload_n 0, 1) := by decide +kernel
theorem dX1_request_33 : decode cX1_request 33 = .ok (.getfield 58, 3) := by decide +kernel
theorem dX1_request_36 : decode cX1_request 36 = .ok (.iload_n 1, 1) := by decide +kernel
theorem dX1_request_37 : decode cX1_request 37 = .ok (.aaload, 1) := by decide +kernel
theorem dX1_request_38 : decode cX1_request 38 = .ok (.astore_n 3, 1) := by decide +kernel
theorem dX1_request_39 : decode cX1_request 39 = .ok (.iload_n 2, 1) := by decide +kernel
theorem dX1_request_40 : decode cX1_request 40 = .ok (.bipush 64, 2) := by decide +kernel
theorem dX1_request_42 : decode cX1_request 42 = .ok (.aload_n 3, 1) := by decide +kernel
theorem dX1_request_43 : decode cX1_request 43 = .ok (.invokevirtual 163, 3) := by decide +kernel
theorem dX1_request_46 : decode cX1_request 46 = .ok (.iadd, 1) := by decide +kernel
theorem dX1_request_47 : decode cX1_request 47 = .ok (.if_icmp .eq 6, 3) := by decide +kernel
theorem dX1_request_50 : decode cX1_request 50 = .ok (.bipush (-2), 2) := by decide +kernel
theorem dX1_request_52 : decode cX1_request 52 = .ok (.ireturn, 1) := by decide +kernel
theorem dX1_request_53 : decode cX1_request 53 = .ok (.aload_n 0, 1) := by decide +kernel
theorem dX1_request_54 : decode cX1_request 54 = .ok (.getfield 166, 3) := by decide +kernel
theorem dX1_request_57 : decode cX1_request 57 = .ok (.bipush 60, 2) := by decide +kernel
theorem dX1_request_59 : decode cX1_request 59 = .ok (.if_icmp .ne 6, 3) := by decide +kernel
theorem dX1_request_62 : decode cX1_request 62 = .ok (.bipush (-6), 2) := by decide +kernel
theorem dX1_request_64 : decode cX1_request 64 = .ok (.ireturn, 1) := by decide +kernel
theorem dX1_request_65 : decode cX1_request 65 = .ok (.bipush 98, 2) := by decide +kernel
theorem dX1_request_67 : decode cX1_request 67 = .ok (.newarray .byte, 2) := by decide +kernel
theorem dX1_request_69 : decode cX1_request 69 = .ok (.astore 4, 2) := by decide +kernel
theorem dX1_request_71 : decode cX1_request 71 = .ok (.aload 4, 2) := by decide +kernel
theorem dX1_request_73 : decode cX1_request 73 = .ok (.iconst 1, 1) := by decide +kernel
theorem dX1_request_74 : decode cX1_request 74 = .ok (.aload_n 3, 1) := by decide +kernel
theorem dX1_request_75 : decode cX1_request 75 = .ok (.getfield 156, 3) := by decide +kernel
theorem dX1_request_78 : decode cX1_request 78 = .ok (.i2b, 1) := by decide +kernel
theorem dX1_request_79 : decode cX1_request 79 = .ok (.bastore, 1) := by decide +kernel
theorem dX1_request_80 : decode cX1_request 80 = .ok (.aload_n 0, 1) := by decide +kernel
theorem dX1_request_81 : decode cX1_request 81 = .ok (.getfield 68, 3) := by decide +kernel
theorem dX1_request_84 : decode cX1_request 84 = .ok (.iconst 0, 1) := by decide +kernel
theorem dX1_request_85 : decode cX1_request 85 = .ok (.aload 4, 2) := by decide +kernel
theorem dX1_request_87 : decode cX1_request 87 = .ok (.iconst 2, 1) := by decide +kernel
theorem dX1_request_88 : decode cX1_request 88 = .ok (.bipush 64, 2) := by decide +kernel
theorem dX1_request_90 : decode cX1_request 90 = .ok (.invokestatic 89, 3) := by decide +kernel
theorem dX1_request_93 : decode cX1_request 93 = .ok (.aload_n 3, 1) := by decide +kernel
theorem dX1_request_94 : decode cX1_request 94 = .ok (.getfield 141, 3) := by decide +kernel
theorem dX1_request_97 : decode cX1_request 97 = .ok (.iconst 0, 1) := by decide +kernel
theorem dX1_request_98 : decode cX1_request 98 = .ok (.aload 4, 2) := by decide +kernel
theorem dX1_request_100 : decode cX1_request 100 = .ok (.bipush 66, 2) := by decide +kernel
theorem dX1_request_102 : decode cX1_request 102 = .ok (.bipush 32, 2) := by decide +kernel
theorem dX1_request_104 : decode cX1_request 104 = .ok (.invokestatic 89, 3) := by decide +kernel
theorem dX1_request_107 : decode cX1_request 107 = .ok (.aload_n 0, 1) := by decide +kernel
theorem dX1_request_108 : decode cX1_request 108 = .ok (.getfield 64, 3) := by decide +kernel
theorem dX1_request_111 : decode cX1_request 111 = .ok (.aload_n 0, 1) := by decide +kernel
theorem dX1_request_112 : decode cX1_request 112 = .ok (.getfield 166, 3) := by decide +kernel
theorem dX1_request_115 : decode cX1_request 115 = .ok (.new 62, 3) := by decide +kernel
theorem dX1_request_118 : decode cX1_request 118 = .ok (.dup, 1) := by decide +kernel
theorem dX1_request_119 : decode cX1_request 119 = .ok (.aload_n 3, 1) := by decide +kernel
theorem dX1_request_120 : decode cX1_request 120 = .ok (.aload 4, 2) := by decide +kernel
theorem dX1_request_122 : decode cX1_request 122 = .ok (.aload_n 3, 1) := by decide +kernel
theorem dX1_request_123 : decode cX1_request 123 = .ok (.aload 4, 2) := by decide +kernel
theorem dX1_request_125 : decode cX1_request 125 = .ok (.aload_n 0, 1) := by decide +kernel
theorem dX1_request_126 : decode cX1_request 126 = .ok (.getfield 68, 3) := by decide +kernel
theorem dX1_request_129 : decode cX1_request 129 = .ok (.bipush 64, 2) := by decide +kernel
theorem dX1_request_131 : decode cX1_request 131 = .ok (.aload_n 0, 1) := by decide +kernel
theorem dX1_request_132 : decode cX1_request 132 = .ok (.getfield 75, 3) := by decide +kernel
theorem dX1_request_135 : decode cX1_request 135 = .ok (.iconst 3, 1) := by decide +kernel
theorem dX1_request_136 : decode cX1_request 136 = .ok (.invokevirtual 169, 3) := by decide +kernel
theorem dX1_request_139 : decode cX1_request 139 = .ok (.invokespecial 173, 3) := by decide +kernel
theorem dX1_request_142 : decode cX1_request 142 = .ok (.aastore, 1) := by decide +kernel
theorem dX1_request_143 : decode cX1_request 143 = .ok (.goto 11, 3) := by decide +kernel
theorem dX1_request_146 : decode cX1_request 146 = .ok (.astore 5, 2) := by decide +kernel
theorem dX1_request_148 : decode cX1_request 148 = .ok (.aload 5, 2) := by decide +kernel
theorem dX1_request_150 : decode cX1_request 150 = .ok (.getfield 114, 3) := by decide +kernel
theorem dX1_request_153 : decode cX1_request 153 = .ok (.ireturn, 1) := by decide +kernel
theorem dX1_request_154 : decode cX1_request 154 = .ok (.aload_n 0, 1) := by decide +kernel
theorem dX1_request_155 : decode cX1_request 155 = .ok (.dup, 1) := by decide +kernel
theorem dX1_request_156 : decode cX1_request 156 = .ok (.getfield 166, 3) := by decide +kernel
theorem dX1_request_159 : decode cX1_request 159 = .ok (.iconst 1, 1) := by decide +kernel
theorem dX1_request_160 : decode cX1_request 160 = .ok (.iadd, 1) := by decide +kernel
theorem dX1_request_161 : decode cX1_request 161 = .ok (.putfield 166, 3) := by decide +kernel
theorem dX1_request_164 : decode cX1_request 164 = .ok (.aload_n 0, 1) := by decide +kernel
theorem dX1_request_165 : decode cX1_request 165 = .ok (.getfield 75, 3) := by decide +kernel
theorem dX1_request_168 : decode cX1_request 168 = .ok (.iconst 0, 1) := by decide +kernel
theorem dX1_request_169 : decode cX1_request 169 = .ok (.iconst 0, 1) := by decide +kernel
theorem dX1_request_170 : decode cX1_request 170 = .ok (.bastore, 1) := by decide +kernel
theorem dX1_request_171 : decode cX1_request 171 = .ok (.aload_n 0, 1) := by decide +kernel
theorem dX1_request_172 : decode cX1_request 172 = .ok (.getfield 75, 3) := by decide +kernel
theorem dX1_request_175 : decode cX1_request 175 = .ok (.iconst 1, 1) := by decide +kernel
theorem dX1_request_176 : decode cX1_request 176 = .ok (.aload_n 3, 1) := by decide +kernel
theorem dX1_request_177 : decode cX1_request 177 = .ok (.getfield 156, 3) := by decide +kernel
theorem dX1_request_180 : decode cX1_request 180 = .ok (.i2b, 1) := by decide +kernel
theorem dX1_request_181 : decode cX1_request 181 = .ok (.bastore, 1) := by decide +kernel
theorem dX1_request_182 : decode cX1_request 182 = .ok (.aload_n 0, 1) := by decide +kernel
theorem dX1_request_183 : decode cX1_request 183 = .ok (.getfield 75, 3) := by decide +kernel
theorem dX1_request_186 : decode cX1_request 186 = .ok (.iconst 2, 1) := by decide +kernel
theorem dX1_request_187 : decode cX1_request 187 = .ok (.aload_n 3, 1) := by decide +kernel
theorem dX1_request_188 : decode cX1_request 188 = .ok (.getfield 141, 3) := by decide +kernel
theorem dX1_request_191 : decode cX1_request 191 = .ok (.bipush 31, 2) := by decide +kernel
theorem dX1_request_193 : decode cX1_request 193 = .ok (.baload, 1) := by decide +kernel
theorem dX1_request_194 : decode cX1_request 194 = .ok (.bastore, 1) := by decide +kernel
theorem dX1_request_195 : decode cX1_request 195 = .ok (.aload_n 0, 1) := by decide +kernel
theorem dX1_request_196 : decode cX1_request 196 = .ok (.iconst 3, 1) := by decide +kernel
theorem dX1_request_197 : decode cX1_request 197 = .ok (.aload_n 3, 1) := by decide +kernel
theorem dX1_request_198 : decode cX1_request 198 = .ok (.invokevirtual 176, 3) := by decide +kernel
theorem dX1_request_201 : decode cX1_request 201 = .ok (.iadd, 1) := by decide +kernel
theorem dX1_request_202 : decode cX1_request 202 = .ok (.invokevirtual 152, 3) := by decide +kernel
theorem dX1_request_205 : decode cX1_request 205 = .ok (.istore_n 2, 1) := by decide +kernel
theorem dX1_request_206 : decode cX1_request 206 = .ok (.aload_n 0, 1) := by decide +kernel
theorem dX1_request_207 : decode cX1_request 207 = .ok (.getfield 166, 3) := by decide +kernel
theorem dX1_request_210 : decode cX1_request 210 = .ok (.iconst 1, 1) := by decide +kernel
theorem dX1_request_211 : decode cX1_request 211 = .ok (.isub, 1) := by decide +kernel
theorem dX1_request_212 : decode cX1_request 212 = .ok (.ireturn, 1) := by decide +kernel
abbrev cX1_issue : ByteArray := prog_1_method_19_code
def yX1_issue : MethodName := ⟨RX1, "issue", "()I"⟩
theorem dX1_issue_0 : decode cX1_issue 0 = .ok (.aload_n 0, 1) := by decide +kernel
theorem dX1_issue_1 : decode cX1_issue 1 = .ok (.aload_n 0, 1) := by decide +kernel
theorem dX1_issue_2 : decode cX1_issue 2 = .ok (.invokevirtual 101, 3) := by decide +kernel
theorem dX1_issue_5 : decode cX1_issue 5 = .ok (.iconst 1, 1) := by decide +kernel
theorem dX1_issue_6 : decode cX1_issue 6 = .ok (.iconst 1, 1) := by decide +kernel
theorem dX1_issue_7 : decode cX1_issue 7 = .ok (.invokevirtual 193, 3) := by decide +kernel
theorem dX1_issue_10 : decode cX1_issue 10 = .ok (.ireturn, 1) := by decide +kernel
abbrev cX1_issued : ByteArray := prog_1_method_18_code
def yX1_issued : MethodName := ⟨RX1, "issued", "(IIZ)I"⟩
theorem dX1_issued_0 : decode cX1_issued 0 = .ok (.iload_n 1, 1) := by decide +kernel
theorem dX1_issued_1 : decode cX1_issued 1 = .ok (.iconst 3, 1) := by decide +kernel
theorem dX1_issued_2 : decode cX1_issued 2 = .ok (.if_icmp .lt 12, 3) := by decide +kernel
theorem dX1_issued_5 : decode cX1_issued 5 = .ok (.aload_n 0, 1) := by decide +kernel
theorem dX1_issued_6 : decode cX1_issued 6 = .ok (.getfield 68, 3) := by decide +kernel
theorem dX1_issued_9 : decode cX1_issued 9 = .ok (.iconst 0, 1) := by decide +kernel
theorem dX1_issued_10 : decode cX1_issued 10 = .ok (.baload, 1) := by decide +kernel
theorem dX1_issued_11 : decode cX1_issued 11 = .ok (.ifCond .eq 7, 3) := by decide +kernel
theorem dX1_issued_14 : decode cX1_issued 14 = .ok (.iconst 0, 1) := by decide +kernel
theorem dX1_issued_15 : decode cX1_issued 15 = .ok (.goto 9, 3) := by decide +kernel
theorem dX1_issued_18 : decode cX1_issued 18 = .ok (.aload_n 0, 1) := by decide +kernel
theorem dX1_issued_19 : decode cX1_issued 19 = .ok (.getfield 68, 3) := by decide +kernel
theorem dX1_issued_22 : decode cX1_issued 22 = .ok (.iconst 1, 1) := by decide +kernel
theorem dX1_issued_23 : decode cX1_issued 23 = .ok (.baload, 1) := by decide +kernel
theorem dX1_issued_24 : decode cX1_issued 24 = .ok (.istore 4, 2) := by decide +kernel
theorem dX1_issued_26 : decode cX1_issued 26 = .ok (.iload_n 3, 1) := by decide +kernel
theorem dX1_issued_27 : decode cX1_issued 27 = .ok (.ifCond .eq 18, 3) := by decide +kernel
theorem dX1_issued_30 : decode cX1_issued 30 = .ok (.iload 4, 2) := by decide +kernel
theorem dX1_issued_32 : decode cX1_issued 32 = .ok (.iconst 1, 1) := by decide +kernel
theorem dX1_issued_33 : decode cX1_issued 33 = .ok (.if_icmp .eq 21, 3) := by decide +kernel
theorem dX1_issued_36 : decode cX1_issued 36 = .ok (.iload 4, 2) := by decide +kernel
theorem dX1_issued_38 : decode cX1_issued 38 = .ok (.iconst 2, 1) := by decide +kernel
theorem dX1_issued_39 : decode cX1_issued 39 = .ok (.if_icmp .eq 15, 3) := by decide +kernel
theorem dX1_issued_42 : decode cX1_issued 42 = .ok (.goto 9, 3) := by decide +kernel
theorem dX1_issued_45 : decode cX1_issued 45 = .ok (.iload 4, 2) := by decide +kernel
theorem dX1_issued_47 : decode cX1_issued 47 = .ok (.iconst 1, 1) := by decide +kernel
theorem dX1_issued_48 : decode cX1_issued 48 = .ok (.if_icmp .eq 6, 3) := by decide +kernel
theorem dX1_issued_51 : decode cX1_issued 51 = .ok (.bipush (-2), 2) := by decide +kernel
theorem dX1_issued_53 : decode cX1_issued 53 = .ok (.ireturn, 1) := by decide +kernel
theorem dX1_issued_54 : decode cX1_issued 54 = .ok (.aload_n 0, 1) := by decide +kernel
theorem dX1_issued_55 : decode cX1_issued 55 = .ok (.iload 4, 2) := by decide +kernel
theorem dX1_issued_57 : decode cX1_issued 57 = .ok (.aload_n 0, 1) := by decide +kernel
theorem dX1_issued_58 : decode cX1_issued 58 = .ok (.getfield 68, 3) := by decide +kernel
theorem dX1_issued_61 : decode cX1_issued 61 = .ok (.iconst 2, 1) := by decide +kernel
theorem dX1_issued_62 : decode cX1_issued 62 = .ok (.baload, 1) := by decide +kernel
theorem dX1_issued_63 : decode cX1_issued 63 = .ok (.invokevirtual 179, 3) := by decide +kernel
theorem dX1_issued_66 : decode cX1_issued 66 = .ok (.astore 5, 2) := by decide +kernel
theorem dX1_issued_68 : decode cX1_issued 68 = .ok (.aload 5, 2) := by decide +kernel
theorem dX1_issued_70 : decode cX1_issued 70 = .ok (.ifnonnull 6, 3) := by decide +kernel
theorem dX1_issued_73 : decode cX1_issued 73 = .ok (.bipush (-3), 2) := by decide +kernel
theorem dX1_issued_75 : decode cX1_issued 75 = .ok (.ireturn, 1) := by decide +kernel
theorem dX1_issued_76 : decode cX1_issued 76 = .ok (.iload_n 1, 1) := by decide +kernel
theorem dX1_issued_77 : decode cX1_issued 77 = .ok (.iconst 3, 1) := by decide +kernel
theorem dX1_issued_78 : decode cX1_issued 78 = .ok (.iload_n 2, 1) := by decide +kernel
theorem dX1_issued_79 : decode cX1_issued 79 = .ok (.aload 5, 2) := by decide +kernel
theorem dX1_issued_81 : decode cX1_issued 81 = .ok (.invokevirtual 176, 3) := by decide +kernel
theorem dX1_issued_84 : decode cX1_issued 84 = .ok (.imul, 1) := by decide +kernel
theorem dX1_issued_85 : decode cX1_issued 85 = .ok (.iadd, 1) := by decide +kernel
theorem dX1_issued_86 : decode cX1_issued 86 = .ok (.aload 5, 2) := by decide +kernel
theorem dX1_issued_88 : decode cX1_issued 88 = .ok (.invokevirtual 183, 3) := by decide +kernel
theorem dX1_issued_91 : decode cX1_issued 91 = .ok (.iadd, 1) := by decide +kernel
theorem dX1_issued_92 : decode cX1_issued 92 = .ok (.if_icmp .eq 6, 3) := by decide +kernel
theorem dX1_issued_95 : decode cX1_issued 95 = .ok (.bipush (-2), 2) := by decide +kernel
theorem dX1_issued_97 : decode cX1_issued 97 = .ok (.ireturn, 1) := by decide +kernel
theorem dX1_issued_98 : decode cX1_issued 98 = .ok (.aload 5, 2) := by decide +kernel
theorem dX1_issued_100 : decode cX1_issued 100 = .ok (.aload_n 0, 1) := by decide +kernel
theorem dX1_issued_101 : decode cX1_issued 101 = .ok (.getfield 68, 3) := by decide +kernel
theorem dX1_issued_104 : decode cX1_issued 104 = .ok (.iconst 3, 1) := by decide +kernel
theorem dX1_issued_105 : decode cX1_issued 105 = .ok (.iload_n 2, 1) := by decide +kernel
theorem dX1_issued_106 : decode cX1_issued 106 = .ok (.aload_n 0, 1) := by decide +kernel
theorem dX1_issued_107 : decode cX1_issued 107 = .ok (.getfield 75, 3) := by decide +kernel
theorem dX1_issued_110 : decode cX1_issued 110 = .ok (.invokevirtual 186, 3) := by decide +kernel
theorem dX1_issued_113 : decode cX1_issued 113 = .ok (.goto 11, 3) := by decide +kernel
theorem dX1_issued_116 : decode cX1_issued 116 = .ok (.astore 6, 2) := by decide +kernel
theorem dX1_issued_118 : decode cX1_issued 118 = .ok (.aload 6, 2) := by decide +kernel
theorem dX1_issued_120 : decode cX1_issued 120 = .ok (.getfield 114, 3) := by decide +kernel
theorem dX1_issued_123 : decode cX1_issued 123 = .ok (.ireturn, 1) := by decide +kernel
theorem dX1_issued_124 : decode cX1_issued 124 = .ok (.aload_n 0, 1) := by decide +kernel
theorem dX1_issued_125 : decode cX1_issued 125 = .ok (.aload 5, 2) := by decide +kernel
theorem dX1_issued_127 : decode cX1_issued 127 = .ok (.iload_n 2, 1) := by decide +kernel
theorem dX1_issued_128 : decode cX1_issued 128 = .ok (.invokevirtual 190, 3) := by decide +kernel
theorem dX1_issued_131 : decode cX1_issued 131 = .ok (.invokevirtual 152, 3) := by decide +kernel
theorem dX1_issued_134 : decode cX1_issued 134 = .ok (.ireturn, 1) := by decide +kernel
abbrev cX1_liveOf : ByteArray := prog_1_method_17_code
def yX1_liveOf : MethodName := ⟨RX1, "liveOf", "(II)LVeilMint$Key;"⟩
theorem dX1_liveOf_0 : decode cX1_liveOf 0 = .ok (.iconst 0, 1) := by decide +kernel
theorem dX1_liveOf_1 : decode cX1_liveOf 1 = .ok (.istore_n 3, 1) := by decide +kernel
theorem dX1_liveOf_2 : decode cX1_liveOf 2 = .ok (.iload_n 3, 1) := by decide +kernel
theorem dX1_liveOf_3 : decode cX1_liveOf 3 = .ok (.aload_n 0, 1) := by decide +kernel
theorem dX1_liveOf_4 : decode cX1_liveOf 4 = .ok (.getfield 95, 3) := by decide +kernel
theorem dX1_liveOf_7 : decode cX1_liveOf 7 = .ok (.if_icmp .ge 57, 3) := by decide +kernel
theorem dX1_liveOf_10 : decode cX1_liveOf 10 = .ok (.aload_n 0, 1) := by decide +kernel
theorem dX1_liveOf_11 : decode cX1_liveOf 11 = .ok (.getfield 58, 3) := by decide +kernel
theorem dX1_liveOf_14 : decode cX1_liveOf 14 = .ok (.iload_n 3, 1) := by decide +kernel
theorem dX1_liveOf_15 : decode cX1_liveOf 15 = .ok (.aaload, 1) := by decide +kernel
theorem dX1_liveOf_16 : decode cX1_liveOf 16 = .ok (.getfield 148, 3) := by decide +kernel
theorem dX1_liveOf_19 : decode cX1_liveOf 19 = .ok (.ifCond .eq 39, 3) := by decide +kernel
theorem dX1_liveOf_22 : decode cX1_liveOf 22 = .ok (.aload_n 0, 1) := by decide +kernel
theorem dX1_liveOf_23 : decode cX1_liveOf 23 = .ok (.getfield 58, 3) := by decide +kernel
theorem dX1_liveOf_26 : decode cX1_liveOf 26 = .ok (.iload_n 3, 1) := by decide +kernel
theorem dX1_liveOf_27 : decode cX1_liveOf 27 = .ok (.aaload, 1) := by decide +kernel
theorem dX1_liveOf_28 : decode cX1_liveOf 28 = .ok (.getfield 156, 3) := by decide +kernel
theorem dX1_liveOf_31 : decode cX1_liveOf 31 = .ok (.iload_n 1, 1) := by decide +kernel
theorem dX1_liveOf_32 : decode cX1_liveOf 32 = .ok (.if_icmp .ne 26, 3) := by decide +kernel
theorem dX1_liveOf_35 : decode cX1_liveOf 35 = .ok (.aload_n 0, 1) := by decide +kernel
theorem dX1_liveOf_36 : decode cX1_liveOf 36 = .ok (.getfield 58, 3) := by decide +kernel
theorem dX1_liveOf_39 : decode cX1_liveOf 39 = .ok (.iload_n 3, 1) := by decide +kernel
theorem dX1_liveOf_40 : decode cX1_liveOf 40 = .ok (.aaload, 1) := by decide +kernel
theorem dX1_liveOf_41 : decode cX1_liveOf 41 = .ok (.getfield 141, 3) := by decide +kernel
theorem dX1_liveOf_44 : decode cX1_liveOf 44 = .ok (.bipush 31, 2) := by decide +kernel
theorem dX1_liveOf_46 : decode cX1_liveOf 46 = .ok (.baload, 1) := by decide +kernel
theorem dX1_liveOf_47 : decode cX1_liveOf 47 = .ok (.iload_n 2, 1) := by decide +kernel
theorem dX1_liveOf_48 : decode cX1_liveOf 48 = .ok (.if_icmp .ne 10, 3) := by decide +kernel
theorem dX1_liveOf_51 : decode cX1_liveOf 51 = .ok (.aload_n 0, 1) := by decide +kernel
theorem dX1_liveOf_52 : decode cX1_liveOf 52 = .ok (.getfield 58, 3) := by decide +kernel
theorem dX1_liveOf_55 : decode cX1_liveOf 55 = .ok (.iload_n 3, 1) := by decide +kernel
theorem dX1_liveOf_56 : decode cX1_liveOf 56 = .ok (.aaload, 1) := by decide +kernel
theorem dX1_liveOf_57 : decode cX1_liveOf 57 = .ok (.areturn, 1) := by decide +kernel
theorem dX1_liveOf_58 : decode cX1_liveOf 58 = .ok (.iinc 3 1, 3) := by decide +kernel
theorem dX1_liveOf_61 : decode cX1_liveOf 61 = .ok (.goto (-59), 3) := by decide +kernel
theorem dX1_liveOf_64 : decode cX1_liveOf 64 = .ok (.aconst_null, 1) := by decide +kernel
theorem dX1_liveOf_65 : decode cX1_liveOf 65 = .ok (.areturn, 1) := by decide +kernel
abbrev cX1_issueMany : ByteArray := prog_1_method_20_code
def yX1_issueMany : MethodName := ⟨RX1, "issueMany", "(I)I"⟩
theorem dX1_issueMany_0 : decode cX1_issueMany 0 = .ok (.aload_n 0, 1) := by decide +kernel
theorem dX1_issueMany_1 : decode cX1_issueMany 1 = .ok (.invokevirtual 101, 3) := by decide +kernel
theorem dX1_issueMany_4 : decode cX1_issueMany 4 = .ok (.istore_n 2, 1) := by decide +kernel
theorem dX1_issueMany_5 : decode cX1_issueMany 5 = .ok (.iload_n 1, 1) := by decide +kernel
theorem dX1_issueMany_6 : decode cX1_issueMany 6 = .ok (.iconst 1, 1) := by decide +kernel
theorem dX1_issueMany_7 : decode cX1_issueMany 7 = .ok (.if_icmp .lt 9, 3) := by decide +kernel
theorem dX1_issueMany_10 : decode cX1_issueMany 10 = .ok (.iload_n 1, 1) := by decide +kernel
theorem dX1_issueMany_11 : decode cX1_issueMany 11 = .ok (.bipush 8, 2) := by decide +kernel
theorem dX1_issueMany_13 : decode cX1_issueMany 13 = .ok (.if_icmp .le 8, 3) := by decide +kernel
theorem dX1_issueMany_16 : decode cX1_issueMany 16 = .ok (.bipush (-2), 2) := by decide +kernel
theorem dX1_issueMany_18 : decode cX1_issueMany 18 = .ok (.goto 10, 3) := by decide +kernel
theorem dX1_issueMany_21 : decode cX1_issueMany 21 = .ok (.aload_n 0, 1) := by decide +kernel
theorem dX1_issueMany_22 : decode cX1_issueMany 22 = .ok (.iload_n 2, 1) := by decide +kernel
theorem dX1_issueMany_23 : decode cX1_issueMany 23 = .ok (.iload_n 1, 1) := by decide +kernel
theorem dX1_issueMany_24 : decode cX1_issueMany 24 = .ok (.iconst 0, 1) := by decide +kernel
theorem dX1_issueMany_25 : decode cX1_issueMany 25 = .ok (.invokevirtual 193, 3) := by decide +kernel
theorem dX1_issueMany_28 : decode cX1_issueMany 28 = .ok (.ireturn, 1) := by decide +kernel
abbrev cX1_redeem : ByteArray := prog_1_method_25_code
def yX1_redeem : MethodName := ⟨RX1, "redeem", "()I"⟩
theorem dX1_redeem_0 : decode cX1_redeem 0 = .ok (.aload_n 0, 1) := by decide +kernel
theorem dX1_redeem_1 : decode cX1_redeem 1 = .ok (.invokevirtual 101, 3) := by decide +kernel
theorem dX1_redeem_4 : decode cX1_redeem 4 = .ok (.istore_n 1, 1) := by decide +kernel
theorem dX1_redeem_5 : decode cX1_redeem 5 = .ok (.aload_n 0, 1) := by decide +kernel
theorem dX1_redeem_6 : decode cX1_redeem 6 = .ok (.getfield 52, 3) := by decide +kernel
theorem dX1_redeem_9 : decode cX1_redeem 9 = .ok (.getfield 215, 3) := by decide +kernel
theorem dX1_redeem_12 : decode cX1_redeem 12 = .ok (.ifCond .eq 6, 3) := by decide +kernel
theorem dX1_redeem_15 : decode cX1_redeem 15 = .ok (.bipush (-9), 2) := by decide +kernel
theorem dX1_redeem_17 : decode cX1_redeem 17 = .ok (.ireturn, 1) := by decide +kernel
theorem dX1_redeem_18 : decode cX1_redeem 18 = .ok (.iload_n 1, 1) := by decide +kernel
theorem dX1_redeem_19 : decode cX1_redeem 19 = .ok (.bipush 98, 2) := by decide +kernel
theorem dX1_redeem_21 : decode cX1_redeem 21 = .ok (.if_icmp .ge 6, 3) := by decide +kernel
theorem dX1_redeem_24 : decode cX1_redeem 24 = .ok (.bipush (-2), 2) := by decide +kernel
theorem dX1_redeem_26 : decode cX1_redeem 26 = .ok (.ireturn, 1) := by decide +kernel
theorem dX1_redeem_27 : decode cX1_redeem 27 = .ok (.aconst_null, 1) := by decide +kernel
theorem dX1_redeem_28 : decode cX1_redeem 28 = .ok (.astore_n 2, 1) := by decide +kernel
theorem dX1_redeem_29 : decode cX1_redeem 29 = .ok (.aload_n 0, 1) := by decide +kernel
theorem dX1_redeem_30 : decode cX1_redeem 30 = .ok (.getfield 95, 3) := by decide +kernel
theorem dX1_redeem_33 : decode cX1_redeem 33 = .ok (.iconst 1, 1) := by decide +kernel
theorem dX1_redeem_34 : decode cX1_redeem 34 = .ok (.isub, 1) := by decide +kernel
theorem dX1_redeem_35 : decode cX1_redeem 35 = .ok (.istore_n 3, 1) := by decide +kernel
theorem dX1_redeem_36 : decode cX1_redeem 36 = .ok (.iload_n 3, 1) := by decide +kernel
theorem dX1_redeem_37 : decode cX1_redeem 37 = .ok (.ifCond .lt 68, 3) := by decide +kernel
theorem dX1_redeem_40 : decode cX1_redeem 40 = .ok (.aload_n 0, 1) := by decide +kernel
theorem dX1_redeem_41 : decode cX1_redeem 41 = .ok (.getfield 58, 3) := by decide +kernel
theorem dX1_redeem_44 : decode cX1_redeem 44 = .ok (.iload_n 3, 1) := by decide +kernel
theorem dX1_redeem_45 : decode cX1_redeem 45 = .ok (.aaload, 1) := by decide +kernel
theorem dX1_redeem_46 : decode cX1_redeem 46 = .ok (.getfield 148, 3) := by decide +kernel
theorem dX1_redeem_49 : decode cX1_redeem 49 = .ok (.ifCond .eq 50, 3) := by decide +kernel
theorem dX1_redeem_52 : decode cX1_redeem 52 = .ok (.aload_n 0, 1) := by decide +kernel
theorem dX1_redeem_53 : decode cX1_redeem 53 = .ok (.getfield 68, 3) := by decide +kernel
theorem dX1_redeem_56 : decode cX1_redeem 56 = .ok (.iconst 0, 1) := by decide +kernel
theorem dX1_redeem_57 : decode cX1_redeem 57 = .ok (.baload, 1) := by decide +kernel
theorem dX1_redeem_58 : decode cX1_redeem 58 = .ok (.ifCond .ne 41, 3) := by decide +kernel
theorem dX1_redeem_61 : decode cX1_redeem 61 = .ok (.aload_n 0, 1) := by decide +kernel
theorem dX1_redeem_62 : decode cX1_redeem 62 = .ok (.getfield 68, 3) := by decide +kernel
theorem dX1_redeem_65 : decode cX1_redeem 65 = .ok (.iconst 1, 1) := by decide +kernel
theorem dX1_redeem_66 : decode cX1_redeem 66 = .ok (.baload, 1) := by decide +kernel
theorem dX1_redeem_67 : decode cX1_redeem 67 = .ok (.aload_n 0, 1) := by decide +kernel
theorem dX1_redeem_68 : decode cX1_redeem 68 = .ok (.getfield 58, 3) := by decide +kernel
theorem dX1_redeem_71 : decode cX1_redeem 71 = .ok (.iload_n 3, 1) := by decide +kernel
theorem dX1_redeem_72 : decode cX1_redeem 72 = .ok (.aaload, 1) := by decide +kernel
theorem dX1_redeem_73 : decode cX1_redeem 73 = .ok (.getfield 156, 3) := by decide +kernel
theorem dX1_redeem_76 : decode cX1_redeem 76 = .ok (.if_icmp .ne 23, 3) := by decide +kernel
theorem dX1_redeem_79 : decode cX1_redeem 79 = .ok (.aload_n 0, 1) := by decide +kernel
theorem dX1_redeem_80 : decode cX1_redeem 80 = .ok (.aload_n 0, 1) := by decide +kernel
theorem dX1_redeem_81 : decode cX1_redeem 81 = .ok (.getfield 58, 3) := by decide +kernel
theorem dX1_redeem_84 : decode cX1_redeem 84 = .ok (.iload_n 3, 1) := by decide +kernel
theorem dX1_redeem_85 : decode cX1_redeem 85 = .ok (.aaload, 1) := by decide +kernel
theorem dX1_redeem_86 : decode cX1_redeem 86 = .ok (.invokevirtual 218, 3) := by decide +kernel
theorem dX1_redeem_89 : decode cX1_redeem 89 = .ok (.ifCond .eq 10, 3) := by decide +kernel
theorem dX1_redeem_92 : decode cX1_redeem 92 = .ok (.aload_n 0, 1) := by decide +kernel
theorem dX1_redeem_93 : decode cX1_redeem 93 = .ok (.getfield 58, 3) := by decide +kernel
theorem dX1_redeem_96 : decode cX1_redeem 96 = .ok (.iload_n 3, 1) := by decide +kernel
theorem dX1_redeem_97 : decode cX1_redeem 97 = .ok (.aaload, 1) := by decide +kernel
theorem dX1_redeem_98 : decode cX1_redeem 98 = .ok (.astore_n 2, 1) := by decide +kernel
theorem dX1_redeem_99 : decode cX1_redeem 99 = .ok (.iinc 3 (-1), 3) := by decide +kernel
theorem dX1_redeem_102 : decode cX1_redeem 102 = .ok (.goto (-66), 3) := by decide +kernel
theorem dX1_redeem_105 : decode cX1_redeem 105 = .ok (.aload_n 2, 1) := by decide +kernel
theorem dX1_redeem_106 : decode cX1_redeem 106 = .ok (.ifnonnull 6, 3) := by decide +kernel
theorem dX1_redeem_109 : decode cX1_redeem 109 = .ok (.bipush (-3), 2) := by decide +kernel
theorem dX1_redeem_111 : decode cX1_redeem 111 = .ok (.ireturn, 1) := by decide +kernel
theorem dX1_redeem_112 : decode cX1_redeem 112 = .ok (.iload_n 1, 1) := by decide +kernel
theorem dX1_redeem_113 : decode cX1_redeem 113 = .ok (.bipush 98, 2) := by decide +kernel
theorem dX1_redeem_115 : decode cX1_redeem 115 = .ok (.aload_n 2, 1) := by decide +kernel
theorem dX1_redeem_116 : decode cX1_redeem 116 = .ok (.invokevirtual 159, 3) := by decide +kernel
theorem dX1_redeem_119 : decode cX1_redeem 119 = .ok (.iadd, 1) := by decide +kernel
theorem dX1_redeem_120 : decode cX1_redeem 120 = .ok (.if_icmp .eq 6, 3) := by decide +kernel
theorem dX1_redeem_123 : decode cX1_redeem 123 = .ok (.bipush (-2), 2) := by decide +kernel
theorem dX1_redeem_125 : decode cX1_redeem 125 = .ok (.ireturn, 1) := by decide +kernel
theorem dX1_redeem_126 : decode cX1_redeem 126 = .ok (.aload_n 2, 1) := by decide +kernel
theorem dX1_redeem_127 : decode cX1_redeem 127 = .ok (.aload_n 0, 1) := by decide +kernel
theorem dX1_redeem_128 : decode cX1_redeem 128 = .ok (.getfield 68, 3) := by decide +kernel
theorem dX1_redeem_131 : decode cX1_redeem 131 = .ok (.iconst 0, 1) := by decide +kernel
theorem dX1_redeem_132 : decode cX1_redeem 132 = .ok (.aload_n 0, 1) := by decide +kernel
theorem dX1_redeem_133 : decode cX1_redeem 133 = .ok (.getfield 68, 3) := by decide +kernel
theorem dX1_redeem_136 : decode cX1_redeem 136 = .ok (.bipush 98, 2) := by decide +kernel
theorem dX1_redeem_138 : decode cX1_redeem 138 = .ok (.invokevirtual 222, 3) := by decide +kernel
theorem dX1_redeem_141 : decode cX1_redeem 141 = .ok (.istore_n 3, 1) := by decide +kernel
theorem dX1_redeem_142 : decode cX1_redeem 142 = .ok (.goto 11, 3) := by decide +kernel
theorem dX1_redeem_145 : decode cX1_redeem 145 = .ok (.astore 4, 2) := by decide +kernel
theorem dX1_redeem_147 : decode cX1_redeem 147 = .ok (.aload 4, 2) := by decide +kernel
theorem dX1_redeem_149 : decode cX1_redeem 149 = .ok (.getfield 114, 3) := by decide +kernel
theorem dX1_redeem_152 : decode cX1_redeem 152 = .ok (.ireturn, 1) := by decide +kernel
theorem dX1_redeem_153 : decode cX1_redeem 153 = .ok (.iload_n 3, 1) := by decide +kernel
theorem dX1_redeem_154 : decode cX1_redeem 154 = .ok (.ifCond .ne 6, 3) := by decide +kernel
theorem dX1_redeem_157 : decode cX1_redeem 157 = .ok (.bipush (-4), 2) := by decide +kernel
theorem dX1_redeem_159 : decode cX1_redeem 159 = .ok (.ireturn, 1) := by decide +kernel
theorem dX1_redeem_160 : decode cX1_redeem 160 = .ok (.aload_n 0, 1) := by decide +kernel
theorem dX1_redeem_161 : decode cX1_redeem 161 = .ok (.getfield 52, 3) := by decide +kernel
theorem dX1_redeem_164 : decode cX1_redeem 164 = .ok (.aload_n 0, 1) := by decide +kernel
theorem dX1_redeem_165 : decode cX1_redeem 165 = .ok (.getfield 68, 3) := by decide +kernel
theorem dX1_redeem_168 : decode cX1_redeem 168 = .ok (.iconst 2, 1) := by decide +kernel
theorem dX1_redeem_169 : decode cX1_redeem 169 = .ok (.invokevirtual 226, 3) := by decide +kernel
theorem dX1_redeem_172 : decode cX1_redeem 172 = .ok (.istore 4, 2) := by decide +kernel
theorem dX1_redeem_174 : decode cX1_redeem 174 = .ok (.iload 4, 2) := by decide +kernel
theorem dX1_redeem_176 : decode cX1_redeem 176 = .ok (.ifCond .ne 13, 3) := by decide +kernel
theorem dX1_redeem_179 : decode cX1_redeem 179 = .ok (.aload_n 0, 1) := by decide +kernel
theorem dX1_redeem_180 : decode cX1_redeem 180 = .ok (.dup, 1) := by decide +kernel
theorem dX1_redeem_181 : decode cX1_redeem 181 = .ok (.getfield 230, 3) := by decide +kernel
theorem dX1_redeem_184 : decode cX1_redeem 184 = .ok (.iconst 1, 1) := by decide +kernel
theorem dX1_redeem_185 : decode cX1_redeem 185 = .ok (.iadd, 1) := by decide +kernel
theorem dX1_redeem_186 : decode cX1_redeem 186 = .ok (.putfield 230, 3) := by decide +kernel
theorem dX1_redeem_189 : decode cX1_redeem 189 = .ok (.iload 4, 2) := by decide +kernel
theorem dX1_redeem_191 : decode cX1_redeem 191 = .ok (.ireturn, 1) := by decide +kernel
abbrev cX1_isId : ByteArray := prog_1_method_26_code
def yX1_isId : MethodName := ⟨RX1, "isId", "(LVeilMint$Key;)Z"⟩
theorem dX1_isId_0 : decode cX1_isId 0 = .ok (.iconst 1, 1) := by decide +kernel
theorem dX1_isId_1 : decode cX1_isId 1 = .ok (.istore_n 2, 1) := by decide +kernel
theorem dX1_isId_2 : decode cX1_isId 2 = .ok (.iconst 0, 1) := by decide +kernel
theorem dX1_isId_3 : decode cX1_isId 3 = .ok (.istore_n 3, 1) := by decide +kernel
theorem dX1_isId_4 : decode cX1_isId 4 = .ok (.iload_n 3, 1) := by decide +kernel
theorem dX1_isId_5 : decode cX1_isId 5 = .ok (.bipush 32, 2) := by decide +kernel
theorem dX1_isId_7 : decode cX1_isId 7 = .ok (.if_icmp .ge 37, 3) := by decide +kernel
theorem dX1_isId_10 : decode cX1_isId 10 = .ok (.iload_n 2, 1) := by decide +kernel
theorem dX1_isId_11 : decode cX1_isId 11 = .ok (.ifCond .eq 25, 3) := by decide +kernel
theorem dX1_isId_14 : decode cX1_isId 14 = .ok (.aload_n 0, 1) := by decide +kernel
theorem dX1_isId_15 : decode cX1_isId 15 = .ok (.getfield 68, 3) := by decide +kernel
theorem dX1_isId_18 : decode cX1_isId 18 = .ok (.bipush 66, 2) := by decide +kernel
theorem dX1_isId_20 : decode cX1_isId 20 = .ok (.iload_n 3, 1) := by decide +kernel
theorem dX1_isId_21 : decode cX1_isId 21 = .ok (.iadd, 1) := by decide +kernel
theorem dX1_isId_22 : decode cX1_isId 22 = .ok (.baload, 1) := by decide +kernel
theorem dX1_isId_23 : decode cX1_isId 23 = .ok (.aload_n 1, 1) := by decide +kernel
theorem dX1_isId_24 : decode cX1_isId 24 = .ok (.getfield 141, 3) := by decide +kernel
theorem dX1_isId_27 : decode cX1_isId 27 = .ok (.iload_n 3, 1) := by decide +kernel
theorem dX1_isId_28 : decode cX1_isId 28 = .ok (.baload, 1) := by decide +kernel
theorem dX1_isId_29 : decode cX1_isId 29 = .ok (.if_icmp .ne 7, 3) := by decide +kernel
theorem dX1_isId_32 : decode cX1_isId 32 = .ok (.iconst 1, 1) := by decide +kernel
theorem dX1_isId_33 : decode cX1_isId 33 = .ok (.goto 4, 3) := by decide +kernel
theorem dX1_isId_36 : decode cX1_isId 36 = .ok (.iconst 0, 1) := by decide +kernel
theorem dX1_isId_37 : decode cX1_isId 37 = .ok (.istore_n 2, 1) := by decide +kernel
theorem dX1_isId_38 : decode cX1_isId 38 = .ok (.iinc 3 1, 3) := by decide +kernel
theorem dX1_isId_41 : decode cX1_isId 41 = .ok (.goto (-37), 3) := by decide +kernel
theorem dX1_isId_44 : decode cX1_isId 44 = .ok (.iload_n 2, 1) := by decide +kernel
theorem dX1_isId_45 : decode cX1_isId 45 = .ok (.ireturn, 1) := by decide +kernel
abbrev cX1_cut : ByteArray := prog_1_method_27_code
def yX1_cut : MethodName := ⟨RX1, "cut", "(I)Z"⟩
theorem dX1_cut_0 : decode cX1_cut 0 = .ok (.iload_n 1, 1) := by decide +kernel
theorem dX1_cut_1 : decode cX1_cut 1 = .ok (.ifCond .lt 20, 3) := by decide +kernel
theorem dX1_cut_4 : decode cX1_cut 4 = .ok (.iload_n 1, 1) := by decide +kernel
theorem dX1_cut_5 : decode cX1_cut 5 = .ok (.sipush 1000, 3) := by decide +kernel
theorem dX1_cut_8 : decode cX1_cut 8 = .ok (.if_icmp .gt 13, 3) := by decide +kernel
theorem dX1_cut_11 : decode cX1_cut 11 = .ok (.aload_n 0, 1) := by decide +kernel
theorem dX1_cut_12 : decode cX1_cut 12 = .ok (.getfield 52, 3) := by decide +kernel
theorem dX1_cut_15 : decode cX1_cut 15 = .ok (.getfield 215, 3) := by decide +kernel
theorem dX1_cut_18 : decode cX1_cut 18 = .ok (.ifCond .eq 5, 3) := by decide +kernel
theorem dX1_cut_21 : decode cX1_cut 21 = .ok (.iconst 0, 1) := by decide +kernel
theorem dX1_cut_22 : decode cX1_cut 22 = .ok (.ireturn, 1) := by decide +kernel
theorem dX1_cut_23 : decode cX1_cut 23 = .ok (.aload_n 0, 1) := by decide +kernel
theorem dX1_cut_24 : decode cX1_cut 24 = .ok (.getfield 52, 3) := by decide +kernel
theorem dX1_cut_27 : decode cX1_cut 27 = .ok (.iload_n 1, 1) := by decide +kernel
theorem dX1_cut_28 : decode cX1_cut 28 = .ok (.putfield 233, 3) := by decide +kernel
theorem dX1_cut_31 : decode cX1_cut 31 = .ok (.iconst 1, 1) := by decide +kernel
theorem dX1_cut_32 : decode cX1_cut 32 = .ok (.ireturn, 1) := by decide +kernel
abbrev cX1_power : ByteArray := prog_1_method_28_code
def yX1_power : MethodName := ⟨RX1, "power", "()I"⟩
theorem dX1_power_0 : decode cX1_power 0 = .ok (.aload_n 0, 1) := by decide +kernel
theorem dX1_power_1 : decode cX1_power 1 = .ok (.getfield 52, 3) := by decide +kernel
theorem dX1_power_4 : decode cX1_power 4 = .ok (.iconst 0, 1) := by decide +kernel
theorem dX1_power_5 : decode cX1_power 5 = .ok (.putfield 215, 3) := by decide +kernel
theorem dX1_power_8 : decode cX1_power 8 = .ok (.aload_n 0, 1) := by decide +kernel
theorem dX1_power_9 : decode cX1_power 9 = .ok (.getfield 52, 3) := by decide +kernel
theorem dX1_power_12 : decode cX1_power 12 = .ok (.iconst (-1), 1) := by decide +kernel
theorem dX1_power_13 : decode cX1_power 13 = .ok (.putfield 233, 3) := by decide +kernel
theorem dX1_power_16 : decode cX1_power 16 = .ok (.aload_n 0, 1) := by decide +kernel
theorem dX1_power_17 : decode cX1_power 17 = .ok (.getfield 52, 3) := by decide +kernel
theorem dX1_power_20 : decode cX1_power 20 = .ok (.invokevirtual 236, 3) := by decide +kernel
theorem dX1_power_23 : decode cX1_power 23 = .ok (.ireturn, 1) := by decide +kernel
abbrev cX1_disk : ByteArray := prog_1_method_29_code
def yX1_disk : MethodName := ⟨RX1, "disk", "(I)I"⟩
theorem dX1_disk_0 : decode cX1_disk 0 = .ok (.iload_n 1, 1) := by decide +kernel
theorem dX1_disk_1 : decode cX1_disk 1 = .ok (.ifCond .lt 15, 3) := by decide +kernel
theorem dX1_disk_4 : decode cX1_disk 4 = .ok (.iload_n 1, 1) := by decide +kernel
theorem dX1_disk_5 : decode cX1_disk 5 = .ok (.aload_n 0, 1) := by decide +kernel
theorem dX1_disk_6 : decode cX1_disk 6 = .ok (.getfield 52, 3) := by decide +kernel
theorem dX1_disk_9 : decode cX1_disk 9 = .ok (.getfield 239, 3) := by decide +kernel
theorem dX1_disk_12 : decode cX1_disk 12 = .ok (.arraylength, 1) := by decide +kernel
theorem dX1_disk_13 : decode cX1_disk 13 = .ok (.if_icmp .lt 7, 3) := by decide +kernel
theorem dX1_disk_16 : decode cX1_disk 16 = .ok (.iconst (-1), 1) := by decide +kernel
theorem dX1_disk_17 : decode cX1_disk 17 = .ok (.goto 16, 3) := by decide +kernel
theorem dX1_disk_20 : decode cX1_disk 20 = .ok (.aload_n 0, 1) := by decide +kernel
theorem dX1_disk_21 : decode cX1_disk 21 = .ok (.getfield 52, 3) := by decide +kernel
theorem dX1_disk_24 : decode cX1_disk 24 = .ok (.getfield 239, 3) := by decide +kernel
theorem dX1_disk_27 : decode cX1_disk 27 = .ok (.iload_n 1, 1) := by decide +kernel
theorem dX1_disk_28 : decode cX1_disk 28 = .ok (.baload, 1) := by decide +kernel
theorem dX1_disk_29 : decode cX1_disk 29 = .ok (.sipush 255, 3) := by decide +kernel
theorem dX1_disk_32 : decode cX1_disk 32 = .ok (.iand, 1) := by decide +kernel
theorem dX1_disk_33 : decode cX1_disk 33 = .ok (.ireturn, 1) := by decide +kernel
abbrev cX1_count : ByteArray := prog_1_method_30_code
def yX1_count : MethodName := ⟨RX1, "count", "(I)I"⟩
theorem dX1_count_0 : decode cX1_count 0 = .ok (.iconst 0, 1) := by decide +kernel
theorem dX1_count_1 : decode cX1_count 1 = .ok (.istore_n 2, 1) := by decide +kernel
theorem dX1_count_2 : decode cX1_count 2 = .ok (.iload_n 1, 1) := by decide +kernel
theorem dX1_count_3 : decode cX1_count 3 = .ok (.tableswitch 203 0 9 #[53, 58, 96, 101, 139, 147, 155, 171, 193, 198], 53) := by decide +kernel
theorem dX1_count_56 : decode cX1_count 56 = .ok (.aload_n 0, 1) := by decide +kernel
theorem dX1_count_57 : decode cX1_count 57 = .ok (.getfield 95, 3) := by decide +kernel
theorem dX1_count_60 : decode cX1_count 60 = .ok (.ireturn, 1) := by decide +kernel
theorem dX1_count_61 : decode cX1_count 61 = .ok (.iconst 0, 1) := by decide +kernel
theorem dX1_count_62 : decode cX1_count 62 = .ok (.istore_n 3, 1) := by decide +kernel
theorem dX1_count_63 : decode cX1_count 63 = .ok (.iload_n 3, 1) := by decide +kernel
theorem dX1_count_64 : decode cX1_count 64 = .ok (.aload_n 0, 1) := by decide +kernel
theorem dX1_count_65 : decode cX1_count 65 = .ok (.getfield 95, 3) := by decide +kernel
theorem dX1_count_68 : decode cX1_count 68 = .ok (.if_icmp .ge 29, 3) := by decide +kernel
theorem dX1_count_71 : decode cX1_count 71 = .ok (.iload_n 2, 1) := by decide +kernel
theorem dX1_count_72 : decode cX1_count 72 = .ok (.aload_n 0, 1) := by decide +kernel
theorem dX1_count_73 : decode cX1_count 73 = .ok (.getfield 58, 3) := by decide +kernel
theorem dX1_count_76 : decode cX1_count 76 = .ok (.iload_n 3, 1) := by decide +kernel
theorem dX1_count_77 : decode cX1_count 77 = .ok (.aaload, 1) := by decide +kernel
theorem dX1_count_78 : decode cX1_count 78 = .ok (.getfield 148, 3) := by decide +kernel
theorem dX1_count_81 : decode cX1_count 81 = .ok (.ifCond .eq 7, 3) := by decide +kernel
theorem dX1_count_84 : decode cX1_count 84 = .ok (.iconst 1, 1) := by decide +kernel
theorem dX1_count_85 : decode cX1_count 85 = .ok (.goto 4, 3) := by decide +kernel
theorem dX1_count_88 : decode cX1_count 88 = .ok (.iconst 0, 1) := by decide +kernel
theorem dX1_count_89 : decode cX1_count 89 = .ok (.iadd, 1) := by decide +kernel
theorem dX1_count_90 : decode cX1_count 90 = .ok (.istore_n 2, 1) := by decide +kernel
theorem dX1_count_91 : decode cX1_count 91 = .ok (.iinc 3 1, 3) := by decide +kernel
theorem dX1_count_94 : decode cX1_count 94 = .ok (.goto (-31), 3) := by decide +kernel
theorem dX1_count_97 : decode cX1_count 97 = .ok (.iload_n 2, 1) := by decide +kernel
theorem dX1_count_98 : decode cX1_count 98 = .ok (.ireturn, 1) := by decide +kernel
theorem dX1_count_99 : decode cX1_count 99 = .ok (.aload_n 0, 1) := by decide +kernel
theorem dX1_count_100 : decode cX1_count 100 = .ok (.getfield 166, 3) := by decide +kernel
theorem dX1_count_103 : decode cX1_count 103 = .ok (.ireturn, 1) := by decide +kernel
theorem dX1_count_104 : decode cX1_count 104 = .ok (.iconst 0, 1) := by decide +kernel
theorem dX1_count_105 : decode cX1_count 105 = .ok (.istore_n 3, 1) := by decide +kernel
theorem dX1_count_106 : decode cX1_count 106 = .ok (.iload_n 3, 1) := by decide +kernel
theorem dX1_count_107 : decode cX1_count 107 = .ok (.aload_n 0, 1) := by decide +kernel
theorem dX1_count_108 : decode cX1_count 108 = .ok (.getfield 166, 3) := by decide +kernel
theorem dX1_count_111 : decode cX1_count 111 = .ok (.if_icmp .ge 29, 3) := by decide +kernel
theorem dX1_count_114 : decode cX1_count 114 = .ok (.iload_n 2, 1) := by decide +kernel
theorem dX1_count_115 : decode cX1_count 115 = .ok (.aload_n 0, 1) := by decide +kernel
theorem dX1_count_116 : decode cX1_count 116 = .ok (.getfield 64, 3) := by decide +kernel
theorem dX1_count_119 : decode cX1_count 119 = .ok (.iload_n 3, 1) := by decide +kernel
theorem dX1_count_120 : decode cX1_count 120 = .ok (.aaload, 1) := by decide +kernel
theorem dX1_count_121 : decode cX1_count 121 = .ok (.getfield 205, 3) := by decide +kernel
theorem dX1_count_124 : decode cX1_count 124 = .ok (.ifCond .eq 7, 3) := by decide +kernel
theorem dX1_count_127 : decode cX1_count 127 = .ok (.iconst 1, 1) := by decide +kernel
theorem dX1_count_128 : decode cX1_count 128 = .ok (.goto 4, 3) := by decide +kernel
theorem dX1_count_131 : decode cX1_count 131 = .ok (.iconst 0, 1) := by decide +kernel
theorem dX1_count_132 : decode cX1_count 132 = .ok (.iadd, 1) := by decide +kernel
theorem dX1_count_133 : decode cX1_count 133 = .ok (.istore_n 2, 1) := by decide +kernel
theorem dX1_count_134 : decode cX1_count 134 = .ok (.iinc 3 1, 3) := by decide +kernel
theorem dX1_count_137 : decode cX1_count 137 = .ok (.goto (-31), 3) := by decide +kernel
theorem dX1_count_140 : decode cX1_count 140 = .ok (.iload_n 2, 1) := by decide +kernel
theorem dX1_count_141 : decode cX1_count 141 = .ok (.ireturn, 1) := by decide +kernel
theorem dX1_count_142 : decode cX1_count 142 = .ok (.aload_n 0, 1) := by decide +kernel
theorem dX1_count_143 : decode cX1_count 143 = .ok (.getfield 52, 3) := by decide +kernel
theorem dX1_count_146 : decode cX1_count 146 = .ok (.invokevirtual 236, 3) := by decide +kernel
theorem dX1_count_149 : decode cX1_count 149 = .ok (.ireturn, 1) := by decide +kernel
theorem dX1_count_150 : decode cX1_count 150 = .ok (.aload_n 0, 1) := by decide +kernel
theorem dX1_count_151 : decode cX1_count 151 = .ok (.getfield 52, 3) := by decide +kernel
theorem dX1_count_154 : decode cX1_count 154 = .ok (.getfield 242, 3) := by decide +kernel
theorem dX1_count_157 : decode cX1_count 157 = .ok (.ireturn, 1) := by decide +kernel
theorem dX1_count_158 : decode cX1_count 158 = .ok (.aload_n 0, 1) := by decide +kernel
theorem dX1_count_159 : decode cX1_count 159 = .ok (.getfield 52, 3) := by decide +kernel
theorem dX1_count_162 : decode cX1_count 162 = .ok (.getfield 215, 3) := by decide +kernel
theorem dX1_count_165 : decode cX1_count 165 = .ok (.ifCond .eq 7, 3) := by decide +kernel
theorem dX1_count_168 : decode cX1_count 168 = .ok (.iconst 1, 1) := by decide +kernel
theorem dX1_count_169 : decode cX1_count 169 = .ok (.goto 4, 3) := by decide +kernel
theorem dX1_count_172 : decode cX1_count 172 = .ok (.iconst 0, 1) := by decide +kernel
theorem dX1_count_173 : decode cX1_count 173 = .ok (.ireturn, 1) := by decide +kernel
theorem dX1_count_174 : decode cX1_count 174 = .ok (.aload_n 0, 1) := by decide +kernel
theorem dX1_count_175 : decode cX1_count 175 = .ok (.getfield 52, 3) := by decide +kernel
theorem dX1_count_178 : decode cX1_count 178 = .ok (.getfield 215, 3) := by decide +kernel
theorem dX1_count_181 : decode cX1_count 181 = .ok (.ifCond .eq 7, 3) := by decide +kernel
theorem dX1_count_184 : decode cX1_count 184 = .ok (.iconst 0, 1) := by decide +kernel
theorem dX1_count_185 : decode cX1_count 185 = .ok (.goto 10, 3) := by decide +kernel
theorem dX1_count_188 : decode cX1_count 188 = .ok (.aload_n 0, 1) := by decide +kernel
theorem dX1_count_189 : decode cX1_count 189 = .ok (.getfield 52, 3) := by decide +kernel
theorem dX1_count_192 : decode cX1_count 192 = .ok (.getfield 233, 3) := by decide +kernel
theorem dX1_count_195 : decode cX1_count 195 = .ok (.ireturn, 1) := by decide +kernel
theorem dX1_count_196 : decode cX1_count 196 = .ok (.aload_n 0, 1) := by decide +kernel
theorem dX1_count_197 : decode cX1_count 197 = .ok (.getfield 78, 3) := by decide +kernel
theorem dX1_count_200 : decode cX1_count 200 = .ok (.ireturn, 1) := by decide +kernel
theorem dX1_count_201 : decode cX1_count 201 = .ok (.aload_n 0, 1) := by decide +kernel
theorem dX1_count_202 : decode cX1_count 202 = .ok (.getfield 230, 3) := by decide +kernel
theorem dX1_count_205 : decode cX1_count 205 = .ok (.ireturn, 1) := by decide +kernel
theorem dX1_count_206 : decode cX1_count 206 = .ok (.iconst (-1), 1) := by decide +kernel
theorem dX1_count_207 : decode cX1_count 207 = .ok (.ireturn, 1) := by decide +kernel
abbrev cX1_retire : ByteArray := prog_1_method_13_code
def yX1_retire : MethodName := ⟨RX1, "retire", "(I)Z"⟩
theorem dX1_retire_0 : decode cX1_retire 0 = .ok (.aload_n 0, 1) := by decide +kernel
theorem dX1_retire_1 : decode cX1_retire 1 = .ok (.iload_n 1, 1) := by decide +kernel
theorem dX1_retire_2 : decode cX1_retire 2 = .ok (.invokevirtual 144, 3) := by decide +kernel
theorem dX1_retire_5 : decode cX1_retire 5 = .ok (.astore_n 2, 1) := by decide +kernel
theorem dX1_retire_6 : decode cX1_retire 6 = .ok (.aload_n 2, 1) := by decide +kernel
theorem dX1_retire_7 : decode cX1_retire 7 = .ok (.getfield 148, 3) := by decide +kernel
theorem dX1_retire_10 : decode cX1_retire 10 = .ok (.istore_n 3, 1) := by decide +kernel
theorem dX1_retire_11 : decode cX1_retire 11 = .ok (.aload_n 2, 1) := by decide +kernel
theorem dX1_retire_12 : decode cX1_retire 12 = .ok (.iconst 0, 1) := by decide +kernel
theorem dX1_retire_13 : decode cX1_retire 13 = .ok (.putfield 148, 3) := by decide +kernel
theorem dX1_retire_16 : decode cX1_retire 16 = .ok (.iload_n 3, 1) := by decide +kernel
theorem dX1_retire_17 : decode cX1_retire 17 = .ok (.ireturn, 1) := by decide +kernel
abbrev cX1_keyAt : ByteArray := prog_1_method_11_code
def yX1_keyAt : MethodName := ⟨RX1, "keyAt", "(I)LVeilMint$Key;"⟩
theorem dX1_keyAt_0 : decode cX1_keyAt 0 = .ok (.iload_n 1, 1) := by decide +kernel
theorem dX1_keyAt_1 : decode cX1_keyAt 1 = .ok (.ifCond .lt 11, 3) := by decide +kernel
theorem dX1_keyAt_4 : decode cX1_keyAt 4 = .ok (.iload_n 1, 1) := by decide +kernel
theorem dX1_keyAt_5 : decode cX1_keyAt 5 = .ok (.aload_n 0, 1) := by decide +kernel
theorem dX1_keyAt_6 : decode cX1_keyAt 6 = .ok (.getfield 95, 3) := by decide +kernel
theorem dX1_keyAt_9 : decode cX1_keyAt 9 = .ok (.if_icmp .lt 11, 3) := by decide +kernel
theorem dX1_keyAt_12 : decode cX1_keyAt 12 = .ok (.new 98, 3) := by decide +kernel
theorem dX1_keyAt_15 : decode cX1_keyAt 15 = .ok (.dup, 1) := by decide +kernel
theorem dX1_keyAt_16 : decode cX1_keyAt 16 = .ok (.invokespecial 100, 3) := by decide +kernel
theorem dX1_keyAt_19 : decode cX1_keyAt 19 = .ok (.athrow, 1) := by decide +kernel
theorem dX1_keyAt_20 : decode cX1_keyAt 20 = .ok (.aload_n 0, 1) := by decide +kernel
theorem dX1_keyAt_21 : decode cX1_keyAt 21 = .ok (.getfield 58, 3) := by decide +kernel
theorem dX1_keyAt_24 : decode cX1_keyAt 24 = .ok (.iload_n 1, 1) := by decide +kernel
theorem dX1_keyAt_25 : decode cX1_keyAt 25 = .ok (.aaload, 1) := by decide +kernel
theorem dX1_keyAt_26 : decode cX1_keyAt 26 = .ok (.areturn, 1) := by decide +kernel
abbrev cX1_look : ByteArray := prog_1_method_14_code
def yX1_look : MethodName := ⟨RX1, "look", "(II)I"⟩
theorem dX1_look_0 : decode cX1_look 0 = .ok (.aload_n 0, 1) := by decide +kernel
theorem dX1_look_1 : decode cX1_look 1 = .ok (.iload_n 1, 1) := by decide +kernel
theorem dX1_look_2 : decode cX1_look 2 = .ok (.invokevirtual 144, 3) := by decide +kernel
theorem dX1_look_5 : decode cX1_look 5 = .ok (.astore_n 3, 1) := by decide +kernel
theorem dX1_look_6 : decode cX1_look 6 = .ok (.iload_n 2, 1) := by decide +kernel
theorem dX1_look_7 : decode cX1_look 7 = .ok (.tableswitch 95 0 4 #[33, 55, 72, 77, 90], 33) := by decide +kernel
theorem dX1_look_40 : decode cX1_look 40 = .ok (.aload_n 3, 1) := by decide +kernel
theorem dX1_look_41 : decode cX1_look 41 = .ok (.getfield 141, 3) := by decide +kernel
theorem dX1_look_44 : decode cX1_look 44 = .ok (.iconst 0, 1) := by decide +kernel
theorem dX1_look_45 : decode cX1_look 45 = .ok (.aload_n 0, 1) := by decide +kernel
theorem dX1_look_46 : decode cX1_look 46 = .ok (.getfield 75, 3) := by decide +kernel
theorem dX1_look_49 : decode cX1_look 49 = .ok (.iconst 0, 1) := by decide +kernel
theorem dX1_look_50 : decode cX1_look 50 = .ok (.bipush 32, 2) := by decide +kernel
theorem dX1_look_52 : decode cX1_look 52 = .ok (.invokestatic 89, 3) := by decide +kernel
theorem dX1_look_55 : decode cX1_look 55 = .ok (.aload_n 0, 1) := by decide +kernel
theorem dX1_look_56 : decode cX1_look 56 = .ok (.bipush 32, 2) := by decide +kernel
theorem dX1_look_58 : decode cX1_look 58 = .ok (.invokevirtual 152, 3) := by decide +kernel
theorem dX1_look_61 : decode cX1_look 61 = .ok (.ireturn, 1) := by decide +kernel
theorem dX1_look_62 : decode cX1_look 62 = .ok (.aload_n 3, 1) := by decide +kernel
theorem dX1_look_63 : decode cX1_look 63 = .ok (.aload_n 0, 1) := by decide +kernel
theorem dX1_look_64 : decode cX1_look 64 = .ok (.getfield 75, 3) := by decide +kernel
theorem dX1_look_67 : decode cX1_look 67 = .ok (.invokevirtual 117, 3) := by decide +kernel
theorem dX1_look_70 : decode cX1_look 70 = .ok (.aload_n 0, 1) := by decide +kernel
theorem dX1_look_71 : decode cX1_look 71 = .ok (.aload_n 3, 1) := by decide +kernel
theorem dX1_look_72 : decode cX1_look 72 = .ok (.invokevirtual 125, 3) := by decide +kernel
theorem dX1_look_75 : decode cX1_look 75 = .ok (.invokevirtual 152, 3) := by decide +kernel
theorem dX1_look_78 : decode cX1_look 78 = .ok (.ireturn, 1) := by decide +kernel
theorem dX1_look_79 : decode cX1_look 79 = .ok (.aload_n 3, 1) := by decide +kernel
theorem dX1_look_80 : decode cX1_look 80 = .ok (.getfield 156, 3) := by decide +kernel
theorem dX1_look_83 : decode cX1_look 83 = .ok (.ireturn, 1) := by decide +kernel
theorem dX1_look_84 : decode cX1_look 84 = .ok (.aload_n 3, 1) := by decide +kernel
theorem dX1_look_85 : decode cX1_look 85 = .ok (.getfield 148, 3) := by decide +kernel
theorem dX1_look_88 : decode cX1_look 88 = .ok (.ifCond .eq 7, 3) := by decide +kernel
theorem dX1_look_91 : decode cX1_look 91 = .ok (.iconst 1, 1) := by decide +kernel
theorem dX1_look_92 : decode cX1_look 92 = .ok (.goto 4, 3) := by decide +kernel
theorem dX1_look_95 : decode cX1_look 95 = .ok (.iconst 0, 1) := by decide +kernel
theorem dX1_look_96 : decode cX1_look 96 = .ok (.ireturn, 1) := by decide +kernel
theorem dX1_look_97 : decode cX1_look 97 = .ok (.aload_n 3, 1) := by decide +kernel
theorem dX1_look_98 : decode cX1_look 98 = .ok (.invokevirtual 159, 3) := by decide +kernel
theorem dX1_look_101 : decode cX1_look 101 = .ok (.ireturn, 1) := by decide +kernel
theorem dX1_look_102 : decode cX1_look 102 = .ok (.new 98, 3) := by decide +kernel
theorem dX1_look_105 : decode cX1_look 105 = .ok (.dup, 1) := by decide +kernel
theorem dX1_look_106 : decode cX1_look 106 = .ok (.invokespecial 100, 3) := by decide +kernel
theorem dX1_look_109 : decode cX1_look 109 = .ok (.athrow, 1) := by decide +kernel
abbrev cX1_finalize : ByteArray := prog_1_method_23_code
def yX1_finalize : MethodName := ⟨RX1, "finalize", "(I)I"⟩
theorem dX1_finalize_0 : decode cX1_finalize 0 = .ok (.aload_n 0, 1) := by decide +kernel
theorem dX1_finalize_1 : decode cX1_finalize 1 = .ok (.invokevirtual 101, 3) := by decide +kernel
theorem dX1_finalize_4 : decode cX1_finalize 4 = .ok (.istore_n 2, 1) := by decide +kernel
theorem dX1_finalize_5 : decode cX1_finalize 5 = .ok (.aload_n 0, 1) := by decide +kernel
theorem dX1_finalize_6 : decode cX1_finalize 6 = .ok (.iload_n 1, 1) := by decide +kernel
theorem dX1_finalize_7 : decode cX1_finalize 7 = .ok (.invokevirtual 208, 3) := by decide +kernel
theorem dX1_finalize_10 : decode cX1_finalize 10 = .ok (.aload_n 0, 1) := by decide +kernel
theorem dX1_finalize_11 : decode cX1_finalize 11 = .ok (.iload_n 2, 1) := by decide +kernel
theorem dX1_finalize_12 : decode cX1_finalize 12 = .ok (.iload_n 1, 1) := by decide +kernel
theorem dX1_finalize_13 : decode cX1_finalize 13 = .ok (.iconst 1, 1) := by decide +kernel
theorem dX1_finalize_14 : decode cX1_finalize 14 = .ok (.invokevirtual 211, 3) := by decide +kernel
theorem dX1_finalize_17 : decode cX1_finalize 17 = .ok (.ireturn, 1) := by decide +kernel
abbrev cX1_mustBeOpen : ByteArray := prog_1_method_22_code
def yX1_mustBeOpen : MethodName := ⟨RX1, "mustBeOpen", "(I)V"⟩
theorem dX1_mustBeOpen_0 : decode cX1_mustBeOpen 0 = .ok (.iload_n 1, 1) := by decide +kernel
theorem dX1_mustBeOpen_1 : decode cX1_mustBeOpen 1 = .ok (.ifCond .lt 23, 3) := by decide +kernel
theorem dX1_mustBeOpen_4 : decode cX1_mustBeOpen 4 = .ok (.iload_n 1, 1) := by decide +kernel
theorem dX1_mustBeOpen_5 : decode cX1_mustBeOpen 5 = .ok (.aload_n 0, 1) := by decide +kernel
theorem dX1_mustBeOpen_6 : decode cX1_mustBeOpen 6 = .ok (.getfield 166, 3) := by decide +kernel
theorem dX1_mustBeOpen_9 : decode cX1_mustBeOpen 9 = .ok (.if_icmp .ge 15, 3) := by decide +kernel
theorem dX1_mustBeOpen_12 : decode cX1_mustBeOpen 12 = .ok (.aload_n 0, 1) := by decide +kernel
theorem dX1_mustBeOpen_13 : decode cX1_mustBeOpen 13 = .ok (.getfield 64, 3) := by decide +kernel
theorem dX1_mustBeOpen_16 : decode cX1_mustBeOpen 16 = .ok (.iload_n 1, 1) := by decide +kernel
theorem dX1_mustBeOpen_17 : decode cX1_mustBeOpen 17 = .ok (.aaload, 1) := by decide +kernel
theorem dX1_mustBeOpen_18 : decode cX1_mustBeOpen 18 = .ok (.getfield 205, 3) := by decide +kernel
theorem dX1_mustBeOpen_21 : decode cX1_mustBeOpen 21 = .ok (.ifCond .ne 11, 3) := by decide +kernel
theorem dX1_mustBeOpen_24 : decode cX1_mustBeOpen 24 = .ok (.new 98, 3) := by decide +kernel
theorem dX1_mustBeOpen_27 : decode cX1_mustBeOpen 27 = .ok (.dup, 1) := by decide +kernel
theorem dX1_mustBeOpen_28 : decode cX1_mustBeOpen 28 = .ok (.invokespecial 100, 3) := by decide +kernel
theorem dX1_mustBeOpen_31 : decode cX1_mustBeOpen 31 = .ok (.athrow, 1) := by decide +kernel
theorem dX1_mustBeOpen_32 : decode cX1_mustBeOpen 32 = .ok (.return_, 1) := by decide +kernel
abbrev cX1_finished : ByteArray := prog_1_method_21_code
def yX1_finished : MethodName := ⟨RX1, "finished", "(III)I"⟩
theorem dX1_finished_0 : decode cX1_finished 0 = .ok (.aload_n 0, 1) := by decide +kernel
theorem dX1_finished_1 : decode cX1_finished 1 = .ok (.getfield 64, 3) := by decide +kernel
theorem dX1_finished_4 : decode cX1_finished 4 = .ok (.iload_n 2, 1) := by decide +kernel
theorem dX1_finished_5 : decode cX1_finished 5 = .ok (.aaload, 1) := by decide +kernel
theorem dX1_finished_6 : decode cX1_finished 6 = .ok (.getfield 197, 3) := by decide +kernel
theorem dX1_finished_9 : decode cX1_finished 9 = .ok (.astore 4, 2) := by decide +kernel
theorem dX1_finished_11 : decode cX1_finished 11 = .ok (.iload_n 1, 1) := by decide +kernel
theorem dX1_finished_12 : decode cX1_finished 12 = .ok (.aload 4, 2) := by decide +kernel
theorem dX1_finished_14 : decode cX1_finished 14 = .ok (.iload_n 3, 1) := by decide +kernel
theorem dX1_finished_15 : decode cX1_finished 15 = .ok (.invokevirtual 190, 3) := by decide +kernel
theorem dX1_finished_18 : decode cX1_finished 18 = .ok (.if_icmp .eq 6, 3) := by decide +kernel
theorem dX1_finished_21 : decode cX1_finished 21 = .ok (.bipush (-2), 2) := by decide +kernel
theorem dX1_finished_23 : decode cX1_finished 23 = .ok (.ireturn, 1) := by decide +kernel
theorem dX1_finished_24 : decode cX1_finished 24 = .ok (.aload 4, 2) := by decide +kernel
theorem dX1_finished_26 : decode cX1_finished 26 = .ok (.aload_n 0, 1) := by decide +kernel
theorem dX1_finished_27 : decode cX1_finished 27 = .ok (.getfield 64, 3) := by decide +kernel
theorem dX1_finished_30 : decode cX1_finished 30 = .ok (.iload_n 2, 1) := by decide +kernel
theorem dX1_finished_31 : decode cX1_finished 31 = .ok (.iload_n 3, 1) := by decide +kernel
theorem dX1_finished_32 : decode cX1_finished 32 = .ok (.aload_n 0, 1) := by decide +kernel
theorem dX1_finished_33 : decode cX1_finished 33 = .ok (.getfield 68, 3) := by decide +kernel
theorem dX1_finished_36 : decode cX1_finished 36 = .ok (.aload_n 0, 1) := by decide +kernel
theorem dX1_finished_37 : decode cX1_finished 37 = .ok (.getfield 75, 3) := by decide +kernel
theorem dX1_finished_40 : decode cX1_finished 40 = .ok (.invokevirtual 201, 3) := by decide +kernel
theorem dX1_finished_43 : decode cX1_finished 43 = .ok (.goto 11, 3) := by decide +kernel
theorem dX1_finished_46 : decode cX1_finished 46 = .ok (.astore 5, 2) := by decide +kernel
theorem dX1_finished_48 : decode cX1_finished 48 = .ok (.aload 5, 2) := by decide +kernel
theorem dX1_finished_50 : decode cX1_finished 50 = .ok (.getfield 114, 3) := by decide +kernel
theorem dX1_finished_53 : decode cX1_finished 53 = .ok (.ireturn, 1) := by decide +kernel
theorem dX1_finished_54 : decode cX1_finished 54 = .ok (.iconst 0, 1) := by decide +kernel
theorem dX1_finished_55 : decode cX1_finished 55 = .ok (.istore 5, 2) := by decide +kernel
theorem dX1_finished_57 : decode cX1_finished 57 = .ok (.iload 5, 2) := by decide +kernel
theorem dX1_finished_59 : decode cX1_finished 59 = .ok (.iload_n 3, 1) := by decide +kernel
theorem dX1_finished_60 : decode cX1_finished 60 = .ok (.if_icmp .ge 22, 3) := by decide +kernel
theorem dX1_finished_63 : decode cX1_finished 63 = .ok (.aload_n 0, 1) := by decide +kernel
theorem dX1_finished_64 : decode cX1_finished 64 = .ok (.getfield 64, 3) := by decide +kernel
theorem dX1_finished_67 : decode cX1_finished 67 = .ok (.iload_n 2, 1) := by decide +kernel
theorem dX1_finished_68 : decode cX1_finished 68 = .ok (.iload 5, 2) := by decide +kernel
theorem dX1_finished_70 : decode cX1_finished 70 = .ok (.iadd, 1) := by decide +kernel
theorem dX1_finished_71 : decode cX1_finished 71 = .ok (.aaload, 1) := by decide +kernel
theorem dX1_finished_72 : decode cX1_finished 72 = .ok (.iconst 0, 1) := by decide +kernel
theorem dX1_finished_73 : decode cX1_finished 73 = .ok (.putfield 205, 3) := by decide +kernel
theorem dX1_finished_76 : decode cX1_finished 76 = .ok (.iinc 5 1, 3) := by decide +kernel
theorem dX1_finished_79 : decode cX1_finished 79 = .ok (.goto (-22), 3) := by decide +kernel
theorem dX1_finished_82 : decode cX1_finished 82 = .ok (.aload_n 0, 1) := by decide +kernel
theorem dX1_finished_83 : decode cX1_finished 83 = .ok (.iload_n 3, 1) := by decide +kernel
theorem dX1_finished_84 : decode cX1_finished 84 = .ok (.bipush 98, 2) := by decide +kernel
theorem dX1_finished_86 : decode cX1_finished 86 = .ok (.aload 4, 2) := by decide +kernel
theorem dX1_finished_88 : decode cX1_finished 88 = .ok (.invokevirtual 159, 3) := by decide +kernel
theorem dX1_finished_91 : decode cX1_finished 91 = .ok (.iadd, 1) := by decide +kernel
theorem dX1_finished_92 : decode cX1_finished 92 = .ok (.imul, 1) := by decide +kernel
theorem dX1_finished_93 : decode cX1_finished 93 = .ok (.invokevirtual 152, 3) := by decide +kernel
theorem dX1_finished_96 : decode cX1_finished 96 = .ok (.ireturn, 1) := by decide +kernel
abbrev cX1_finalizeMany : ByteArray := prog_1_method_24_code
def yX1_finalizeMany : MethodName := ⟨RX1, "finalizeMany", "(II)I"⟩
theorem dX1_finalizeMany_0 : decode cX1_finalizeMany 0 = .ok (.aload_n 0, 1) := by decide +kernel
theorem dX1_finalizeMany_1 : decode cX1_finalizeMany 1 = .ok (.invokevirtual 101, 3) := by decide +kernel
theorem dX1_finalizeMany_4 : decode cX1_finalizeMany 4 = .ok (.istore_n 3, 1) := by decide +kernel
theorem dX1_finalizeMany_5 : decode cX1_finalizeMany 5 = .ok (.iload_n 2, 1) := by decide +kernel
theorem dX1_finalizeMany_6 : decode cX1_finalizeMany 6 = .ok (.iconst 1, 1) := by decide +kernel
theorem dX1_finalizeMany_7 : decode cX1_finalizeMany 7 = .ok (.if_icmp .lt 9, 3) := by decide +kernel
theorem dX1_finalizeMany_10 : decode cX1_finalizeMany 10 = .ok (.iload_n 2, 1) := by decide +kernel
theorem dX1_finalizeMany_11 : decode cX1_finalizeMany 11 = .ok (.bipush 8, 2) := by decide +kernel
theorem dX1_finalizeMany_13 : decode cX1_finalizeMany 13 = .ok (.if_icmp .le 11, 3) := by decide +kernel
theorem dX1_finalizeMany_16 : decode cX1_finalizeMany 16 = .ok (.new 98, 3) := by decide +kernel
theorem dX1_finalizeMany_19 : decode cX1_finalizeMany 19 = .ok (.dup, 1) := by decide +kernel
theorem dX1_finalizeMany_20 : decode cX1_finalizeMany 20 = .ok (.invokespecial 100, 3) := by decide +kernel
theorem dX1_finalizeMany_23 : decode cX1_finalizeMany 23 = .ok (.athrow, 1) := by decide +kernel
theorem dX1_finalizeMany_24 : decode cX1_finalizeMany 24 = .ok (.iconst 0, 1) := by decide +kernel
theorem dX1_finalizeMany_25 : decode cX1_finalizeMany 25 = .ok (.istore 4, 2) := by decide +kernel
theorem dX1_finalizeMany_27 : decode cX1_finalizeMany 27 = .ok (.iload 4, 2) := by decide +kernel
theorem dX1_finalizeMany_29 : decode cX1_finalizeMany 29 = .ok (.iload_n 2, 1) := by decide +kernel
theorem dX1_finalizeMany_30 : decode cX1_finalizeMany 30 = .ok (.if_icmp .ge 17, 3) := by decide +kernel
theorem dX1_finalizeMany_33 : decode cX1_finalizeMany 33 = .ok (.aload_n 0, 1) := by decide +kernel
theorem dX1_finalizeMany_34 : decode cX1_finalizeMany 34 = .ok (.iload_n 1, 1) := by decide +kernel
theorem dX1_finalizeMany_35 : decode cX1_finalizeMany 35 = .ok (.iload 4, 2) := by decide +kernel
theorem dX1_finalizeMany_37 : decode cX1_finalizeMany 37 = .ok (.iadd, 1) := by decide +kernel
theorem dX1_finalizeMany_38 : decode cX1_finalizeMany 38 = .ok (.invokevirtual 208, 3) := by decide +kernel
theorem dX1_finalizeMany_41 : decode cX1_finalizeMany 41 = .ok (.iinc 4 1, 3) := by decide +kernel
theorem dX1_finalizeMany_44 : decode cX1_finalizeMany 44 = .ok (.goto (-17), 3) := by decide +kernel
theorem dX1_finalizeMany_47 : decode cX1_finalizeMany 47 = .ok (.aload_n 0, 1) := by decide +kernel
theorem dX1_finalizeMany_48 : decode cX1_finalizeMany 48 = .ok (.getfield 64, 3) := by decide +kernel
theorem dX1_finalizeMany_51 : decode cX1_finalizeMany 51 = .ok (.iload_n 1, 1) := by decide +kernel
theorem dX1_finalizeMany_52 : decode cX1_finalizeMany 52 = .ok (.aaload, 1) := by decide +kernel
theorem dX1_finalizeMany_53 : decode cX1_finalizeMany 53 = .ok (.getfield 197, 3) := by decide +kernel
theorem dX1_finalizeMany_56 : decode cX1_finalizeMany 56 = .ok (.getfield 156, 3) := by decide +kernel
theorem dX1_finalizeMany_59 : decode cX1_finalizeMany 59 = .ok (.iconst 1, 1) := by decide +kernel
theorem dX1_finalizeMany_60 : decode cX1_finalizeMany 60 = .ok (.if_icmp .ne 7, 3) := by decide +kernel
theorem dX1_finalizeMany_63 : decode cX1_finalizeMany 63 = .ok (.iconst 1, 1) := by decide +kernel
theorem dX1_finalizeMany_64 : decode cX1_finalizeMany 64 = .ok (.goto 4, 3) := by decide +kernel
theorem dX1_finalizeMany_67 : decode cX1_finalizeMany 67 = .ok (.iconst 0, 1) := by decide +kernel
theorem dX1_finalizeMany_68 : decode cX1_finalizeMany 68 = .ok (.istore 4, 2) := by decide +kernel
theorem dX1_finalizeMany_70 : decode cX1_finalizeMany 70 = .ok (.iconst 1, 1) := by decide +kernel
theorem dX1_finalizeMany_71 : decode cX1_finalizeMany 71 = .ok (.istore 5, 2) := by decide +kernel
theorem dX1_finalizeMany_73 : decode cX1_finalizeMany 73 = .ok (.iload 5, 2) := by decide +kernel
theorem dX1_finalizeMany_75 : decode cX1_finalizeMany 75 = .ok (.iload_n 2, 1) := by decide +kernel
theorem dX1_finalizeMany_76 : decode cX1_finalizeMany 76 = .ok (.if_icmp .ge 45, 3) := by decide +kernel
theorem dX1_finalizeMany_79 : decode cX1_finalizeMany 79 = .ok (.iload 4, 2) := by decide +kernel
theorem dX1_finalizeMany_81 : decode cX1_finalizeMany 81 = .ok (.ifCond .eq 31, 3) := by decide +kernel
theorem dX1_finalizeMany_84 : decode cX1_finalizeMany 84 = .ok (.aload_n 0, 1) := by decide +kernel
theorem dX1_finalizeMany_85 : decode cX1_finalizeMany 85 = .ok (.getfield 64, 3) := by decide +kernel
theorem dX1_finalizeMany_88 : decode cX1_finalizeMany 88 = .ok (.iload_n 1, 1) := by decide +kernel
theorem dX1_finalizeMany_89 : decode cX1_finalizeMany 89 = .ok (.iload 5, 2) := by decide +kernel
theorem dX1_finalizeMany_91 : decode cX1_finalizeMany 91 = .ok (.iadd, 1) := by decide +kernel
theorem dX1_finalizeMany_92 : decode cX1_finalizeMany 92 = .ok (.aaload, 1) := by decide +kernel
theorem dX1_finalizeMany_93 : decode cX1_finalizeMany 93 = .ok (.getfield 197, 3) := by decide +kernel
theorem dX1_finalizeMany_96 : decode cX1_finalizeMany 96 = .ok (.aload_n 0, 1) := by decide +kernel
theorem dX1_finalizeMany_97 : decode cX1_finalizeMany 97 = .ok (.getfield 64, 3) := by decide +kernel
theorem dX1_finalizeMany_100 : decode cX1_finalizeMany 100 = .ok (.iload_n 1, 1) := by decide +kernel
theorem dX1_finalizeMany_101 : decode cX1_finalizeMany 101 = .ok (.aaload, 1) := by decide +kernel
theorem dX1_finalizeMany_102 : decode cX1_finalizeMany 102 = .ok (.getfield 197, 3) := by decide +kernel
theorem dX1_finalizeMany_105 : decode cX1_finalizeMany 105 = .ok (.if_acmp .ne 7, 3) := by decide +kernel
theorem dX1_finalizeMany_108 : decode cX1_finalizeMany 108 = .ok (.iconst 1, 1) := by decide +kernel
theorem dX1_finalizeMany_109 : decode cX1_finalizeMany 109 = .ok (.goto 4, 3) := by decide +kernel
theorem dX1_finalizeMany_112 : decode cX1_finalizeMany 112 = .ok (.iconst 0, 1) := by decide +kernel
theorem dX1_finalizeMany_113 : decode cX1_finalizeMany 113 = .ok (.istore 4, 2) := by decide +kernel
theorem dX1_finalizeMany_115 : decode cX1_finalizeMany 115 = .ok (.iinc 5 1, 3) := by decide +kernel
theorem dX1_finalizeMany_118 : decode cX1_finalizeMany 118 = .ok (.goto (-45), 3) := by decide +kernel
theorem dX1_finalizeMany_121 : decode cX1_finalizeMany 121 = .ok (.iload 4, 2) := by decide +kernel
theorem dX1_finalizeMany_123 : decode cX1_finalizeMany 123 = .ok (.ifCond .eq 13, 3) := by decide +kernel
theorem dX1_finalizeMany_126 : decode cX1_finalizeMany 126 = .ok (.aload_n 0, 1) := by decide +kernel
theorem dX1_finalizeMany_127 : decode cX1_finalizeMany 127 = .ok (.iload_n 3, 1) := by decide +kernel
theorem dX1_finalizeMany_128 : decode cX1_finalizeMany 128 = .ok (.iload_n 1, 1) := by decide +kernel
theorem dX1_finalizeMany_129 : decode cX1_finalizeMany 129 = .ok (.iload_n 2, 1) := by decide +kernel
theorem dX1_finalizeMany_130 : decode cX1_finalizeMany 130 = .ok (.invokevirtual 211, 3) := by decide +kernel
theorem dX1_finalizeMany_133 : decode cX1_finalizeMany 133 = .ok (.goto 5, 3) := by decide +kernel
theorem dX1_finalizeMany_136 : decode cX1_finalizeMany 136 = .ok (.bipush (-2), 2) := by decide +kernel
theorem dX1_finalizeMany_138 : decode cX1_finalizeMany 138 = .ok (.ireturn, 1) := by decide +kernel
theorem q98 : (Jvm.Cond.initialized "VeilMint") ∈ lw_all := lw_g (lw_at lw_m1 1 rfl) rfl
theorem q126 : (Jvm.Cond.instantiable "VeilMint" (15 : Nat)) ∈ lw_all := lw_g (lw_at lw_m1 29 rfl) rfl
theorem q128 : (Jvm.Cond.instanceMethod ({ cls := "VeilMint", name := "<init>", desc := "()V" } : Jvm.MethodName)) ∈ lw_all := lw_g (lw_at lw_m1 31 rfl) rfl
theorem q129 : (Jvm.Cond.code ({ cls := "VeilMint", name := "<init>", desc := "()V" } : Jvm.MethodName) prog_1_method_2_code (1 : Nat) (Option.none : Option Jvm.ClassFile.FieldType)) ∈ lw_all := lw_g (lw_at lw_m1 32 rfl) rfl
theorem q130 : (Jvm.Cond.methodLink "VeilMint" (11 : Nat) ({ cls := "java/lang/Object", name := "<init>", desc := "()V" } : Jvm.MethodName)) ∈ lw_all := lw_g (lw_at lw_m1 33 rfl) rfl
theorem q133 : (Jvm.Cond.classLink "VeilMint" (17 : Nat) "VeilMint$Digest256") ∈ lw_all := lw_g (lw_at lw_m1 36 rfl) rfl
theorem q135 : (Jvm.Cond.methodLink "VeilMint" (19 : Nat) ({ cls := "VeilMint$Digest256", name := "<init>", desc := "()V" } : Jvm.MethodName)) ∈ lw_all := lw_g (lw_at lw_m1 38 rfl) rfl
theorem q171 : (Jvm.Cond.classLink "VeilMint" (26 : Nat) "VeilMint$Digest384") ∈ lw_all := lw_g (lw_at lw_m1 74 rfl) rfl
theorem q173 : (Jvm.Cond.methodLink "VeilMint" (28 : Nat) ({ cls := "VeilMint$Digest384", name := "<init>", desc := "()V" } : Jvm.MethodName)) ∈ lw_all := lw_g (lw_at lw_m1 76 rfl) rfl
theorem q189 : (Jvm.Cond.classLink "VeilMint" (33 : Nat) "VeilMint$Curve") ∈ lw_all := lw_g (lw_at lw_m1 92 rfl) rfl
theorem q191 : (Jvm.Cond.methodLink "VeilMint" (35 : Nat) ({ cls := "VeilMint$Curve", name := "<init>", desc := "(LVeilMint$Digest384;)V" } : Jvm.MethodName)) ∈ lw_all := lw_g (lw_at lw_m1 94 rfl) rfl
theorem q199 : (Jvm.Cond.static ({ cls := "VeilMint", name := "limbs", desc := "(Ljava/lang/String;)[I" } : Jvm.MethodName)) ∈ lw_all := lw_g (lw_at lw_m1 102 rfl) rfl
theorem q200 : (Jvm.Cond.code ({ cls := "VeilMint", name := "limbs", desc := "(Ljava/lang/String;)[I" } : Jvm.MethodName) prog_1_method_1_code (5 : Nat) (Option.some (Jvm.ClassFile.FieldType.array Jvm.ClassFile.FieldType.int))) ∈ lw_all := lw_g (lw_at lw_m1 103 rfl) rfl
theorem q201 : (Jvm.Cond.methodLink "VeilMint" (1 : Nat) ({ cls := "java/lang/String", name := "length", desc := "()I" } : Jvm.MethodName)) ∈ lw_all := lw_g (lw_at lw_m1 104 rfl) rfl
theorem q211 : (Jvm.Cond.methodLink "VeilMint" (7 : Nat) ({ cls := "java/lang/String", name := "charAt", desc := "(I)C" } : Jvm.MethodName)) ∈ lw_all := lw_g (lw_at lw_m1 114 rfl) rfl
theorem q425 : (Jvm.Cond.classLink "VeilMint" (42 : Nat) "VeilMint$Refusal") ∈ lw_all := lw_g (lw_at lw_m2 88 rfl) rfl
theorem q465 : (Jvm.Cond.methodLink "VeilMint" (44 : Nat) ({ cls := "VeilMint$Refusal", name := "<init>", desc := "()V" } : Jvm.MethodName)) ∈ lw_all := lw_g (lw_at lw_m2 128 rfl) rfl
theorem q478 : (Jvm.Cond.fieldLinkNest "VeilMint" (114 : Nat) "VeilMint$Refusal" "why" "I" "VeilMint") ∈ lw_tbl := lw_at lw_m2 141 rfl
theorem q494 : (Jvm.Cond.classLink "VeilMint" (49 : Nat) "VeilMint$Disk") ∈ lw_all := lw_g (lw_at lw_m2 157 rfl) rfl
theorem q496 : (Jvm.Cond.methodLinkNest "VeilMint" (51 : Nat) ({ cls := "VeilMint$Disk", name := "<init>", desc := "()V" } : Jvm.MethodName) "VeilMint") ∈ lw_tbl := lw_at lw_m2 159 rfl
theorem q501 : (Jvm.Cond.fieldLinkNest "VeilMint" (239 : Nat) "VeilMint$Disk" "cells" "[B" "VeilMint") ∈ lw_tbl := lw_at lw_m2 164 rfl
theorem q504 : (Jvm.Cond.fieldLinkNest "VeilMint" (242 : Nat) "VeilMint$Disk" "writes" "I" "VeilMint") ∈ lw_tbl := lw_at lw_m2 167 rfl
theorem q506 : (Jvm.Cond.fieldLinkNest "VeilMint" (233 : Nat) "VeilMint$Disk" "fuse" "I" "VeilMint") ∈ lw_tbl := lw_at lw_m2 169 rfl
theorem q508 : (Jvm.Cond.fieldLinkNest "VeilMint" (215 : Nat) "VeilMint$Disk" "down" "Z" "VeilMint") ∈ lw_tbl := lw_at lw_m2 171 rfl
theorem q520 : (Jvm.Cond.classLink "VeilMint" (56 : Nat) "VeilMint$Key") ∈ lw_all := lw_g (lw_at lw_m2 183 rfl) rfl
theorem q522 : (Jvm.Cond.classLink "VeilMint" (62 : Nat) "VeilMint$Asking") ∈ lw_all := lw_g (lw_at lw_m2 185 rfl) rfl
theorem q524 : (Jvm.Cond.fieldLink "VeilMint" (20 : Nat) "VeilMint" "small" "LVeilMint$Digest256;") ∈ lw_all := lw_g (lw_at lw_m2 187 rfl) rfl
theorem q525 : (Jvm.Cond.fieldLink "VeilMint" (29 : Nat) "VeilMint" "large" "LVeilMint$Digest384;") ∈ lw_all := lw_g (lw_at lw_m2 188 rfl) rfl
theorem q526 : (Jvm.Cond.fieldLink "VeilMint" (38 : Nat) "VeilMint" "curve" "LVeilMint$Curve;") ∈ lw_all := lw_g (lw_at lw_m2 189 rfl) rfl
theorem q527 : (Jvm.Cond.fieldLink "VeilMint" (45 : Nat) "VeilMint" "refusal" "LVeilMint$Refusal;") ∈ lw_all := lw_g (lw_at lw_m2 190 rfl) rfl
theorem q528 : (Jvm.Cond.fieldLink "VeilMint" (52 : Nat) "VeilMint" "disk" "LVeilMint$Disk;") ∈ lw_all := lw_g (lw_at lw_m2 191 rfl) rfl
theorem q529 : (Jvm.Cond.fieldLink "VeilMint" (58 : Nat) "VeilMint" "keys" "[LVeilMint$Key;") ∈ lw_all := lw_g (lw_at lw_m2 192 rfl) rfl
theorem q530 : (Jvm.Cond.fieldLink "VeilMint" (64 : Nat) "VeilMint" "askings" "[LVeilMint$Asking;") ∈ lw_all := lw_g (lw_at lw_m2 193 rfl) rfl
theorem q531 : (Jvm.Cond.fieldLink "VeilMint" (68 : Nat) "VeilMint" "tape" "[B") ∈ lw_all := lw_g (lw_at lw_m2 194 rfl) rfl
theorem q532 : (Jvm.Cond.fieldLink "VeilMint" (72 : Nat) "VeilMint" "out" "[B") ∈ lw_all := lw_g (lw_at lw_m2 195 rfl) rfl
theorem q533 : (Jvm.Cond.fieldLink "VeilMint" (75 : Nat) "VeilMint" "draft" "[B") ∈ lw_all := lw_g (lw_at lw_m2 196 rfl) rfl
theorem q534 : (Jvm.Cond.fieldLink "VeilMint" (78 : Nat) "VeilMint" "taped" "I") ∈ lw_all := lw_g (lw_at lw_m2 197 rfl) rfl
theorem q535 : (Jvm.Cond.fieldLink "VeilMint" (86 : Nat) "VeilMint" "outs" "I") ∈ lw_all := lw_g (lw_at lw_m2 198 rfl) rfl
theorem q536 : (Jvm.Cond.fieldLink "VeilMint" (95 : Nat) "VeilMint" "keyMany" "I") ∈ lw_all := lw_g (lw_at lw_m2 199 rfl) rfl
theorem q537 : (Jvm.Cond.fieldLink "VeilMint" (166 : Nat) "VeilMint" "askingMany" "I") ∈ lw_all := lw_g (lw_at lw_m2 200 rfl) rfl
theorem q538 : (Jvm.Cond.fieldLink "VeilMint" (230 : Nat) "VeilMint" "redeemed" "I") ∈ lw_all := lw_g (lw_at lw_m2 201 rfl) rfl
theorem q539 : (Jvm.Cond.laysFinal "VeilMint" "VeilMint" "small" "LVeilMint$Digest256;") ∈ lw_all := lw_g (lw_at lw_m2 202 rfl) rfl
theorem q540 : (Jvm.Cond.soleField "VeilMint" "small") ∈ lw_all := lw_g (lw_at lw_m2 203 rfl) rfl
theorem q541 : (Jvm.Cond.laysFinal "VeilMint" "VeilMint" "large" "LVeilMint$Digest384;") ∈ lw_all := lw_g (lw_at lw_m2 204 rfl) rfl
theorem q542 : (Jvm.Cond.soleField "VeilMint" "large") ∈ lw_all := lw_g (lw_at lw_m2 205 rfl) rfl
theorem q543 : (Jvm.Cond.laysFinal "VeilMint" "VeilMint" "curve" "LVeilMint$Curve;") ∈ lw_all := lw_g (lw_at lw_m2 206 rfl) rfl
theorem q544 : (Jvm.Cond.soleField "VeilMint" "curve") ∈ lw_all := lw_g (lw_at lw_m2 207 rfl) rfl
theorem q545 : (Jvm.Cond.laysFinal "VeilMint" "VeilMint" "refusal" "LVeilMint$Refusal;") ∈ lw_all := lw_g (lw_at lw_m2 208 rfl) rfl
theorem q546 : (Jvm.Cond.soleField "VeilMint" "refusal") ∈ lw_all := lw_g (lw_at lw_m2 209 rfl) rfl
theorem q547 : (Jvm.Cond.laysFinal "VeilMint" "VeilMint" "disk" "LVeilMint$Disk;") ∈ lw_all := lw_g (lw_at lw_m2 210 rfl) rfl
theorem q548 : (Jvm.Cond.soleField "VeilMint" "disk") ∈ lw_all := lw_g (lw_at lw_m2 211 rfl) rfl
theorem q549 : (Jvm.Cond.laysFinal "VeilMint" "VeilMint" "keys" "[LVeilMint$Key;") ∈ lw_all := lw_g (lw_at lw_m2 212 rfl) rfl
theorem q550 : (Jvm.Cond.soleField "VeilMint" "keys") ∈ lw_all := lw_g (lw_at lw_m2 213 rfl) rfl
theorem q551 : (Jvm.Cond.laysFinal "VeilMint" "VeilMint" "askings" "[LVeilMint$Asking;") ∈ lw_all := lw_g (lw_at lw_m2 214 rfl) rfl
theorem q552 : (Jvm.Cond.soleField "VeilMint" "askings") ∈ lw_all := lw_g (lw_at lw_m2 215 rfl) rfl
theorem q553 : (Jvm.Cond.laysFinal "VeilMint" "VeilMint" "tape" "[B") ∈ lw_all := lw_g (lw_at lw_m2 216 rfl) rfl
theorem q554 : (Jvm.Cond.soleField "VeilMint" "tape") ∈ lw_all := lw_g (lw_at lw_m2 217 rfl) rfl
theorem q555 : (Jvm.Cond.laysFinal "VeilMint" "VeilMint" "out" "[B") ∈ lw_all := lw_g (lw_at lw_m2 218 rfl) rfl
theorem q556 : (Jvm.Cond.soleField "VeilMint" "out") ∈ lw_all := lw_g (lw_at lw_m2 219 rfl) rfl
theorem q557 : (Jvm.Cond.laysFinal "VeilMint" "VeilMint" "draft" "[B") ∈ lw_all := lw_g (lw_at lw_m2 220 rfl) rfl
theorem q558 : (Jvm.Cond.soleField "VeilMint" "draft") ∈ lw_all := lw_g (lw_at lw_m2 221 rfl) rfl
theorem q559 : (Jvm.Cond.lays "VeilMint" "VeilMint" "taped" "I") ∈ lw_all := lw_g (lw_at lw_m2 222 rfl) rfl
theorem q560 : (Jvm.Cond.soleField "VeilMint" "taped") ∈ lw_all := lw_g (lw_at lw_m2 223 rfl) rfl
theorem q561 : (Jvm.Cond.lays "VeilMint" "VeilMint" "outs" "I") ∈ lw_all := lw_g (lw_at lw_m2 224 rfl) rfl
theorem q562 : (Jvm.Cond.soleField "VeilMint" "outs") ∈ lw_all := lw_g (lw_at lw_m2 225 rfl) rfl
theorem q563 : (Jvm.Cond.lays "VeilMint" "VeilMint" "keyMany" "I") ∈ lw_all := lw_g (lw_at lw_m2 226 rfl) rfl
theorem q564 : (Jvm.Cond.soleField "VeilMint" "keyMany") ∈ lw_all := lw_g (lw_at lw_m2 227 rfl) rfl
theorem q565 : (Jvm.Cond.lays "VeilMint" "VeilMint" "askingMany" "I") ∈ lw_all := lw_g (lw_at lw_m2 228 rfl) rfl
theorem q566 : (Jvm.Cond.soleField "VeilMint" "askingMany") ∈ lw_all := lw_g (lw_at lw_m2 229 rfl) rfl
theorem q567 : (Jvm.Cond.lays "VeilMint" "VeilMint" "redeemed" "I") ∈ lw_all := lw_g (lw_at lw_m2 230 rfl) rfl
theorem q568 : (Jvm.Cond.soleField "VeilMint" "redeemed") ∈ lw_all := lw_g (lw_at lw_m2 231 rfl) rfl
theorem q569 : (Jvm.Cond.superclass "VeilMint" "java/lang/Object") ∈ lw_all := lw_g (lw_at lw_m2 232 rfl) rfl
theorem q571 : (Jvm.Cond.instanceMethod ({ cls := "VeilMint", name := "feed", desc := "(IIIII)I" } : Jvm.MethodName)) ∈ lw_all := lw_g (lw_at lw_m2 234 rfl) rfl
theorem q572 : (Jvm.Cond.selects "VeilMint" ({ cls := "VeilMint", name := "feed", desc := "(IIIII)I" } : Jvm.MethodName) ({ cls := "VeilMint", name := "feed", desc := "(IIIII)I" } : Jvm.MethodName)) ∈ lw_all := lw_g (lw_at lw_m2 235 rfl) rfl
theorem q573 : (Jvm.Cond.code ({ cls := "VeilMint", name := "feed", desc := "(IIIII)I" } : Jvm.MethodName) prog_1_method_4_code (6 : Nat) (Option.some Jvm.ClassFile.FieldType.int)) ∈ lw_all := lw_g (lw_at lw_m2 236 rfl) rfl
theorem q574 : (Jvm.Cond.methodLink "VeilMint" (82 : Nat) ({ cls := "VeilMint", name := "four", desc := "(I)V" } : Jvm.MethodName)) ∈ lw_all := lw_g (lw_at lw_m2 237 rfl) rfl
theorem q575 : (Jvm.Cond.privateMethod ({ cls := "VeilMint", name := "four", desc := "(I)V" } : Jvm.MethodName)) ∈ lw_tbl := lw_at lw_m2 238 rfl
theorem q576 : (Jvm.Cond.instanceMethod ({ cls := "VeilMint", name := "four", desc := "(I)V" } : Jvm.MethodName)) ∈ lw_all := lw_g (lw_at lw_m2 239 rfl) rfl
theorem q577 : (Jvm.Cond.code ({ cls := "VeilMint", name := "four", desc := "(I)V" } : Jvm.MethodName) prog_1_method_3_code (3 : Nat) (Option.none : Option Jvm.ClassFile.FieldType)) ∈ lw_all := lw_g (lw_at lw_m3 0 rfl) rfl
theorem q579 : (Jvm.Cond.instanceMethod ({ cls := "VeilMint", name := "end", desc := "(I)Z" } : Jvm.MethodName)) ∈ lw_all := lw_g (lw_at lw_m3 2 rfl) rfl
theorem q580 : (Jvm.Cond.selects "VeilMint" ({ cls := "VeilMint", name := "end", desc := "(I)Z" } : Jvm.MethodName) ({ cls := "VeilMint", name := "end", desc := "(I)Z" } : Jvm.MethodName)) ∈ lw_all := lw_g (lw_at lw_m3 3 rfl) rfl
theorem q581 : (Jvm.Cond.code ({ cls := "VeilMint", name := "end", desc := "(I)Z" } : Jvm.MethodName) prog_1_method_5_code (2 : Nat) (Option.some Jvm.ClassFile.FieldType.boolean)) ∈ lw_all := lw_g (lw_at lw_m3 4 rfl) rfl
theorem q583 : (Jvm.Cond.instanceMethod ({ cls := "VeilMint", name := "again", desc := "(II)I" } : Jvm.MethodName)) ∈ lw_all := lw_g (lw_at lw_m3 6 rfl) rfl
theorem q584 : (Jvm.Cond.selects "VeilMint" ({ cls := "VeilMint", name := "again", desc := "(II)I" } : Jvm.MethodName) ({ cls := "VeilMint", name := "again", desc := "(II)I" } : Jvm.MethodName)) ∈ lw_all := lw_g (lw_at lw_m3 7 rfl) rfl
theorem q585 : (Jvm.Cond.code ({ cls := "VeilMint", name := "again", desc := "(II)I" } : Jvm.MethodName) prog_1_method_6_code (3 : Nat) (Option.some Jvm.ClassFile.FieldType.int)) ∈ lw_all := lw_g (lw_at lw_m3 8 rfl) rfl
theorem q586 : (Jvm.Cond.methodLink "VeilMint" (89 : Nat) ({ cls := "java/lang/System", name := "arraycopy", desc := "(Ljava/lang/Object;ILjava/lang/Object;II)V" } : Jvm.MethodName)) ∈ lw_all := lw_g (lw_at lw_m3 9 rfl) rfl
theorem q588 : (Jvm.Cond.instanceMethod ({ cls := "VeilMint", name := "out", desc := "(I)I" } : Jvm.MethodName)) ∈ lw_all := lw_g (lw_at lw_m3 11 rfl) rfl
theorem q589 : (Jvm.Cond.selects "VeilMint" ({ cls := "VeilMint", name := "out", desc := "(I)I" } : Jvm.MethodName) ({ cls := "VeilMint", name := "out", desc := "(I)I" } : Jvm.MethodName)) ∈ lw_all := lw_g (lw_at lw_m3 12 rfl) rfl
theorem q590 : (Jvm.Cond.code ({ cls := "VeilMint", name := "out", desc := "(I)I" } : Jvm.MethodName) prog_1_method_7_code (2 : Nat) (Option.some Jvm.ClassFile.FieldType.int)) ∈ lw_all := lw_g (lw_at lw_m3 13 rfl) rfl
theorem q592 : (Jvm.Cond.instanceMethod ({ cls := "VeilMint", name := "outs", desc := "()I" } : Jvm.MethodName)) ∈ lw_all := lw_g (lw_at lw_m3 15 rfl) rfl
theorem q593 : (Jvm.Cond.selects "VeilMint" ({ cls := "VeilMint", name := "outs", desc := "()I" } : Jvm.MethodName) ({ cls := "VeilMint", name := "outs", desc := "()I" } : Jvm.MethodName)) ∈ lw_all := lw_g (lw_at lw_m3 16 rfl) rfl
theorem q594 : (Jvm.Cond.code ({ cls := "VeilMint", name := "outs", desc := "()I" } : Jvm.MethodName) prog_1_method_8_code (1 : Nat) (Option.some Jvm.ClassFile.FieldType.int)) ∈ lw_all := lw_g (lw_at lw_m3 17 rfl) rfl
theorem q596 : (Jvm.Cond.instanceMethod ({ cls := "VeilMint", name := "key", desc := "(I)I" } : Jvm.MethodName)) ∈ lw_all := lw_g (lw_at lw_m3 19 rfl) rfl
theorem q597 : (Jvm.Cond.selects "VeilMint" ({ cls := "VeilMint", name := "key", desc := "(I)I" } : Jvm.MethodName) ({ cls := "VeilMint", name := "key", desc := "(I)I" } : Jvm.MethodName)) ∈ lw_all := lw_g (lw_at lw_m3 20 rfl) rfl
theorem q598 : (Jvm.Cond.codeWith ({ cls := "VeilMint", name := "key", desc := "(I)I" } : Jvm.MethodName) prog_1_method_12_code (5 : Nat) (Option.some Jvm.ClassFile.FieldType.int) [((39 : Nat), (87 : Nat), (90 : Nat), (42 : Nat))]) ∈ lw_all := lw_g (lw_at lw_m3 21 rfl) rfl
theorem q599 : (Jvm.Cond.methodLink "VeilMint" (101 : Nat) ({ cls := "VeilMint", name := "use", desc := "()I" } : Jvm.MethodName)) ∈ lw_all := lw_g (lw_at lw_m3 22 rfl) rfl
theorem q600 : (Jvm.Cond.privateMethod ({ cls := "VeilMint", name := "use", desc := "()I" } : Jvm.MethodName)) ∈ lw_tbl := lw_at lw_m3 23 rfl
theorem q601 : (Jvm.Cond.instanceMethod ({ cls := "VeilMint", name := "use", desc := "()I" } : Jvm.MethodName)) ∈ lw_all := lw_g (lw_at lw_m3 24 rfl) rfl
theorem q602 : (Jvm.Cond.code ({ cls := "VeilMint", name := "use", desc := "()I" } : Jvm.MethodName) prog_1_method_9_code (2 : Nat) (Option.some Jvm.ClassFile.FieldType.int)) ∈ lw_all := lw_g (lw_at lw_m3 25 rfl) rfl
theorem q603 : (Jvm.Cond.classLink "VeilMint" (104 : Nat) "VeilMint$Oblivious") ∈ lw_all := lw_g (lw_at lw_m3 26 rfl) rfl
theorem q605 : (Jvm.Cond.methodLink "VeilMint" (106 : Nat) ({ cls := "VeilMint$Oblivious", name := "<init>", desc := "(LVeilMint$Curve;LVeilMint$Refusal;[B)V" } : Jvm.MethodName)) ∈ lw_all := lw_g (lw_at lw_m3 28 rfl) rfl
theorem q699 : (Jvm.Cond.fieldLink "VeilMint" (141 : Nat) "VeilMint$Key" "id" "[B") ∈ lw_all := lw_g (lw_at lw_m3 122 rfl) rfl
theorem q701 : (Jvm.Cond.fieldLink "VeilMint" (156 : Nat) "VeilMint$Key" "type" "I") ∈ lw_all := lw_g (lw_at lw_m3 124 rfl) rfl
theorem q703 : (Jvm.Cond.fieldLinkNest "VeilMint" (148 : Nat) "VeilMint$Key" "live" "Z" "VeilMint") ∈ lw_tbl := lw_at lw_m3 126 rfl
theorem q741 : (Jvm.Cond.classLink "VeilMint" (109 : Nat) "VeilMint$Signing") ∈ lw_all := lw_g (lw_at lw_m3 164 rfl) rfl
theorem q743 : (Jvm.Cond.methodLink "VeilMint" (111 : Nat) ({ cls := "VeilMint$Signing", name := "<init>", desc := "(LVeilMint$Digest384;LVeilMint$Refusal;[BI)V" } : Jvm.MethodName)) ∈ lw_all := lw_g (lw_at lw_m3 166 rfl) rfl
theorem q804 : (Jvm.Cond.methodLink "VeilMint" (117 : Nat) ({ cls := "VeilMint$Key", name := "publish", desc := "([B)V" } : Jvm.MethodName)) ∈ lw_all := lw_g (lw_at lw_m3 227 rfl) rfl
theorem q814 : (Jvm.Cond.methodLink "VeilMint" (121 : Nat) ({ cls := "VeilMint$Digest256", name := "begin", desc := "()LVeilMint$Digest;" } : Jvm.MethodName)) ∈ lw_all := lw_g (lw_at lw_m3 237 rfl) rfl
theorem q840 : (Jvm.Cond.methodLink "VeilMint" (125 : Nat) ({ cls := "VeilMint$Key", name := "publics", desc := "()I" } : Jvm.MethodName)) ∈ lw_all := lw_g (lw_at lw_m4 23 rfl) rfl
theorem q849 : (Jvm.Cond.methodLink "VeilMint" (128 : Nat) ({ cls := "VeilMint$Digest", name := "put", desc := "([BII)LVeilMint$Digest;" } : Jvm.MethodName)) ∈ lw_all := lw_g (lw_at lw_m4 32 rfl) rfl
theorem q881 : (Jvm.Cond.methodLink "VeilMint" (134 : Nat) ({ cls := "VeilMint$Digest256", name := "put", desc := "(I)LVeilMint$Digest;" } : Jvm.MethodName)) ∈ lw_all := lw_g (lw_at lw_m4 64 rfl) rfl
theorem q885 : (Jvm.Cond.methodLink "VeilMint" (137 : Nat) ({ cls := "VeilMint$Digest256", name := "end", desc := "()[B" } : Jvm.MethodName)) ∈ lw_all := lw_g (lw_at lw_m4 68 rfl) rfl
theorem q902 : (Jvm.Cond.instanceMethod ({ cls := "VeilMint", name := "digest", desc := "()I" } : Jvm.MethodName)) ∈ lw_all := lw_g (lw_at lw_m4 85 rfl) rfl
theorem q903 : (Jvm.Cond.selects "VeilMint" ({ cls := "VeilMint", name := "digest", desc := "()I" } : Jvm.MethodName) ({ cls := "VeilMint", name := "digest", desc := "()I" } : Jvm.MethodName)) ∈ lw_all := lw_g (lw_at lw_m4 86 rfl) rfl
theorem q904 : (Jvm.Cond.code ({ cls := "VeilMint", name := "digest", desc := "()I" } : Jvm.MethodName) prog_1_method_15_code (2 : Nat) (Option.some Jvm.ClassFile.FieldType.int)) ∈ lw_all := lw_g (lw_at lw_m4 87 rfl) rfl
theorem q905 : (Jvm.Cond.methodLink "VeilMint" (162 : Nat) ({ cls := "VeilMint$Digest", name := "end", desc := "()[B" } : Jvm.MethodName)) ∈ lw_all := lw_g (lw_at lw_m4 88 rfl) rfl
theorem q906 : (Jvm.Cond.methodLink "VeilMint" (152 : Nat) ({ cls := "VeilMint", name := "told", desc := "(I)I" } : Jvm.MethodName)) ∈ lw_all := lw_g (lw_at lw_m4 89 rfl) rfl
theorem q907 : (Jvm.Cond.privateMethod ({ cls := "VeilMint", name := "told", desc := "(I)I" } : Jvm.MethodName)) ∈ lw_tbl := lw_at lw_m4 90 rfl
theorem q908 : (Jvm.Cond.instanceMethod ({ cls := "VeilMint", name := "told", desc := "(I)I" } : Jvm.MethodName)) ∈ lw_all := lw_g (lw_at lw_m4 91 rfl) rfl
theorem q909 : (Jvm.Cond.code ({ cls := "VeilMint", name := "told", desc := "(I)I" } : Jvm.MethodName) prog_1_method_10_code (2 : Nat) (Option.some Jvm.ClassFile.FieldType.int)) ∈ lw_all := lw_g (lw_at lw_m4 92 rfl) rfl
theorem q911 : (Jvm.Cond.instanceMethod ({ cls := "VeilMint", name := "request", desc := "(I)I" } : Jvm.MethodName)) ∈ lw_all := lw_g (lw_at lw_m4 94 rfl) rfl
theorem q912 : (Jvm.Cond.selects "VeilMint" ({ cls := "VeilMint", name := "request", desc := "(I)I" } : Jvm.MethodName) ({ cls := "VeilMint", name := "request", desc := "(I)I" } : Jvm.MethodName)) ∈ lw_all := lw_g (lw_at lw_m4 95 rfl) rfl
theorem q913 : (Jvm.Cond.codeWith ({ cls := "VeilMint", name := "request", desc := "(I)I" } : Jvm.MethodName) prog_1_method_16_code (6 : Nat) (Option.some Jvm.ClassFile.FieldType.int) [((107 : Nat), (143 : Nat), (146 : Nat), (42 : Nat))]) ∈ lw_all := lw_g (lw_at lw_m4 96 rfl) rfl
theorem q914 : (Jvm.Cond.methodLink "VeilMint" (163 : Nat) ({ cls := "VeilMint$Key", name := "blind", desc := "()I" } : Jvm.MethodName)) ∈ lw_all := lw_g (lw_at lw_m4 97 rfl) rfl
theorem q924 : (Jvm.Cond.methodLink "VeilMint" (169 : Nat) ({ cls := "VeilMint$Key", name := "blinds", desc := "([B[BI[BI)[I" } : Jvm.MethodName)) ∈ lw_all := lw_g (lw_at lw_m4 107 rfl) rfl
theorem q1056 : (Jvm.Cond.methodLink "VeilMint" (173 : Nat) ({ cls := "VeilMint$Asking", name := "<init>", desc := "(LVeilMint$Key;[B[I)V" } : Jvm.MethodName)) ∈ lw_all := lw_g (lw_at lw_m4 239 rfl) rfl
theorem q1061 : (Jvm.Cond.fieldLinkNest "VeilMint" (197 : Nat) "VeilMint$Asking" "key" "LVeilMint$Key;" "VeilMint") ∈ lw_tbl := lw_at lw_m5 4 rfl
theorem q1069 : (Jvm.Cond.fieldLinkNest "VeilMint" (205 : Nat) "VeilMint$Asking" "open" "Z" "VeilMint") ∈ lw_tbl := lw_at lw_m5 12 rfl
theorem q1079 : (Jvm.Cond.methodLink "VeilMint" (176 : Nat) ({ cls := "VeilMint$Key", name := "blinded", desc := "()I" } : Jvm.MethodName)) ∈ lw_all := lw_g (lw_at lw_m5 22 rfl) rfl
theorem q1089 : (Jvm.Cond.instanceMethod ({ cls := "VeilMint", name := "issue", desc := "()I" } : Jvm.MethodName)) ∈ lw_all := lw_g (lw_at lw_m5 32 rfl) rfl
theorem q1090 : (Jvm.Cond.selects "VeilMint" ({ cls := "VeilMint", name := "issue", desc := "()I" } : Jvm.MethodName) ({ cls := "VeilMint", name := "issue", desc := "()I" } : Jvm.MethodName)) ∈ lw_all := lw_g (lw_at lw_m5 33 rfl) rfl
theorem q1091 : (Jvm.Cond.code ({ cls := "VeilMint", name := "issue", desc := "()I" } : Jvm.MethodName) prog_1_method_19_code (1 : Nat) (Option.some Jvm.ClassFile.FieldType.int)) ∈ lw_all := lw_g (lw_at lw_m5 34 rfl) rfl
theorem q1092 : (Jvm.Cond.methodLink "VeilMint" (193 : Nat) ({ cls := "VeilMint", name := "issued", desc := "(IIZ)I" } : Jvm.MethodName)) ∈ lw_all := lw_g (lw_at lw_m5 35 rfl) rfl
theorem q1093 : (Jvm.Cond.privateMethod ({ cls := "VeilMint", name := "issued", desc := "(IIZ)I" } : Jvm.MethodName)) ∈ lw_tbl := lw_at lw_m5 36 rfl
theorem q1094 : (Jvm.Cond.instanceMethod ({ cls := "VeilMint", name := "issued", desc := "(IIZ)I" } : Jvm.MethodName)) ∈ lw_all := lw_g (lw_at lw_m5 37 rfl) rfl
theorem q1095 : (Jvm.Cond.codeWith ({ cls := "VeilMint", name := "issued", desc := "(IIZ)I" } : Jvm.MethodName) prog_1_method_18_code (7 : Nat) (Option.some Jvm.ClassFile.FieldType.int) [((98 : Nat), (113 : Nat), (116 : Nat), (42 : Nat))]) ∈ lw_all := lw_g (lw_at lw_m5 38 rfl) rfl
theorem q1096 : (Jvm.Cond.methodLink "VeilMint" (179 : Nat) ({ cls := "VeilMint", name := "liveOf", desc := "(II)LVeilMint$Key;" } : Jvm.MethodName)) ∈ lw_all := lw_g (lw_at lw_m5 39 rfl) rfl
theorem q1097 : (Jvm.Cond.privateMethod ({ cls := "VeilMint", name := "liveOf", desc := "(II)LVeilMint$Key;" } : Jvm.MethodName)) ∈ lw_tbl := lw_at lw_m5 40 rfl
theorem q1098 : (Jvm.Cond.instanceMethod ({ cls := "VeilMint", name := "liveOf", desc := "(II)LVeilMint$Key;" } : Jvm.MethodName)) ∈ lw_all := lw_g (lw_at lw_m5 41 rfl) rfl
theorem q1099 : (Jvm.Cond.code ({ cls := "VeilMint", name := "liveOf", desc := "(II)LVeilMint$Key;" } : Jvm.MethodName) prog_1_method_17_code (4 : Nat) (Option.some (Jvm.ClassFile.FieldType.object "VeilMint$Key"))) ∈ lw_all := lw_g (lw_at lw_m5 42 rfl) rfl
theorem q1100 : (Jvm.Cond.methodLink "VeilMint" (183 : Nat) ({ cls := "VeilMint$Key", name := "chance", desc := "()I" } : Jvm.MethodName)) ∈ lw_all := lw_g (lw_at lw_m5 43 rfl) rfl
theorem q1109 : (Jvm.Cond.methodLink "VeilMint" (186 : Nat) ({ cls := "VeilMint$Key", name := "issues", desc := "([BII[B)V" } : Jvm.MethodName)) ∈ lw_all := lw_g (lw_at lw_m5 52 rfl) rfl
theorem q1157 : (Jvm.Cond.methodLink "VeilMint" (190 : Nat) ({ cls := "VeilMint$Key", name := "answers", desc := "(I)I" } : Jvm.MethodName)) ∈ lw_all := lw_g (lw_at lw_m5 100 rfl) rfl
theorem q1167 : (Jvm.Cond.instanceMethod ({ cls := "VeilMint", name := "issueMany", desc := "(I)I" } : Jvm.MethodName)) ∈ lw_all := lw_g (lw_at lw_m5 110 rfl) rfl
theorem q1168 : (Jvm.Cond.selects "VeilMint" ({ cls := "VeilMint", name := "issueMany", desc := "(I)I" } : Jvm.MethodName) ({ cls := "VeilMint", name := "issueMany", desc := "(I)I" } : Jvm.MethodName)) ∈ lw_all := lw_g (lw_at lw_m5 111 rfl) rfl
theorem q1169 : (Jvm.Cond.code ({ cls := "VeilMint", name := "issueMany", desc := "(I)I" } : Jvm.MethodName) prog_1_method_20_code (3 : Nat) (Option.some Jvm.ClassFile.FieldType.int)) ∈ lw_all := lw_g (lw_at lw_m5 112 rfl) rfl
theorem q1171 : (Jvm.Cond.instanceMethod ({ cls := "VeilMint", name := "redeem", desc := "()I" } : Jvm.MethodName)) ∈ lw_all := lw_g (lw_at lw_m5 114 rfl) rfl
theorem q1172 : (Jvm.Cond.selects "VeilMint" ({ cls := "VeilMint", name := "redeem", desc := "()I" } : Jvm.MethodName) ({ cls := "VeilMint", name := "redeem", desc := "()I" } : Jvm.MethodName)) ∈ lw_all := lw_g (lw_at lw_m5 115 rfl) rfl
theorem q1173 : (Jvm.Cond.codeWith ({ cls := "VeilMint", name := "redeem", desc := "()I" } : Jvm.MethodName) prog_1_method_25_code (5 : Nat) (Option.some Jvm.ClassFile.FieldType.int) [((126 : Nat), (142 : Nat), (145 : Nat), (42 : Nat))]) ∈ lw_all := lw_g (lw_at lw_m5 116 rfl) rfl
theorem q1174 : (Jvm.Cond.methodLink "VeilMint" (218 : Nat) ({ cls := "VeilMint", name := "isId", desc := "(LVeilMint$Key;)Z" } : Jvm.MethodName)) ∈ lw_all := lw_g (lw_at lw_m5 117 rfl) rfl
theorem q1175 : (Jvm.Cond.privateMethod ({ cls := "VeilMint", name := "isId", desc := "(LVeilMint$Key;)Z" } : Jvm.MethodName)) ∈ lw_tbl := lw_at lw_m5 118 rfl
theorem q1176 : (Jvm.Cond.instanceMethod ({ cls := "VeilMint", name := "isId", desc := "(LVeilMint$Key;)Z" } : Jvm.MethodName)) ∈ lw_all := lw_g (lw_at lw_m5 119 rfl) rfl
theorem q1177 : (Jvm.Cond.code ({ cls := "VeilMint", name := "isId", desc := "(LVeilMint$Key;)Z" } : Jvm.MethodName) prog_1_method_26_code (4 : Nat) (Option.some Jvm.ClassFile.FieldType.boolean)) ∈ lw_all := lw_g (lw_at lw_m5 120 rfl) rfl
theorem q1178 : (Jvm.Cond.methodLink "VeilMint" (159 : Nat) ({ cls := "VeilMint$Key", name := "proved", desc := "()I" } : Jvm.MethodName)) ∈ lw_all := lw_g (lw_at lw_m5 121 rfl) rfl
theorem q1187 : (Jvm.Cond.methodLink "VeilMint" (222 : Nat) ({ cls := "VeilMint$Key", name := "isRight", desc := "([BI[BI)Z" } : Jvm.MethodName)) ∈ lw_all := lw_g (lw_at lw_m5 130 rfl) rfl
theorem q1205 : (Jvm.Cond.methodLink "VeilMint" (226 : Nat) ({ cls := "VeilMint$Disk", name := "spend", desc := "([BI)I" } : Jvm.MethodName)) ∈ lw_all := lw_g (lw_at lw_m5 148 rfl) rfl
theorem q1227 : (Jvm.Cond.instanceMethod ({ cls := "VeilMint", name := "cut", desc := "(I)Z" } : Jvm.MethodName)) ∈ lw_all := lw_g (lw_at lw_m5 170 rfl) rfl
theorem q1228 : (Jvm.Cond.selects "VeilMint" ({ cls := "VeilMint", name := "cut", desc := "(I)Z" } : Jvm.MethodName) ({ cls := "VeilMint", name := "cut", desc := "(I)Z" } : Jvm.MethodName)) ∈ lw_all := lw_g (lw_at lw_m5 171 rfl) rfl
theorem q1229 : (Jvm.Cond.code ({ cls := "VeilMint", name := "cut", desc := "(I)Z" } : Jvm.MethodName) prog_1_method_27_code (2 : Nat) (Option.some Jvm.ClassFile.FieldType.boolean)) ∈ lw_all := lw_g (lw_at lw_m5 172 rfl) rfl
theorem q1231 : (Jvm.Cond.instanceMethod ({ cls := "VeilMint", name := "power", desc := "()I" } : Jvm.MethodName)) ∈ lw_all := lw_g (lw_at lw_m5 174 rfl) rfl
theorem q1232 : (Jvm.Cond.selects "VeilMint" ({ cls := "VeilMint", name := "power", desc := "()I" } : Jvm.MethodName) ({ cls := "VeilMint", name := "power", desc := "()I" } : Jvm.MethodName)) ∈ lw_all := lw_g (lw_at lw_m5 175 rfl) rfl
theorem q1233 : (Jvm.Cond.code ({ cls := "VeilMint", name := "power", desc := "()I" } : Jvm.MethodName) prog_1_method_28_code (1 : Nat) (Option.some Jvm.ClassFile.FieldType.int)) ∈ lw_all := lw_g (lw_at lw_m5 176 rfl) rfl
theorem q1234 : (Jvm.Cond.methodLink "VeilMint" (236 : Nat) ({ cls := "VeilMint$Disk", name := "many", desc := "()I" } : Jvm.MethodName)) ∈ lw_all := lw_g (lw_at lw_m5 177 rfl) rfl
theorem q1239 : (Jvm.Cond.instanceMethod ({ cls := "VeilMint", name := "disk", desc := "(I)I" } : Jvm.MethodName)) ∈ lw_all := lw_g (lw_at lw_m5 182 rfl) rfl
theorem q1240 : (Jvm.Cond.selects "VeilMint" ({ cls := "VeilMint", name := "disk", desc := "(I)I" } : Jvm.MethodName) ({ cls := "VeilMint", name := "disk", desc := "(I)I" } : Jvm.MethodName)) ∈ lw_all := lw_g (lw_at lw_m5 183 rfl) rfl
theorem q1241 : (Jvm.Cond.code ({ cls := "VeilMint", name := "disk", desc := "(I)I" } : Jvm.MethodName) prog_1_method_29_code (2 : Nat) (Option.some Jvm.ClassFile.FieldType.int)) ∈ lw_all := lw_g (lw_at lw_m5 184 rfl) rfl
theorem q1243 : (Jvm.Cond.instanceMethod ({ cls := "VeilMint", name := "count", desc := "(I)I" } : Jvm.MethodName)) ∈ lw_all := lw_g (lw_at lw_m5 186 rfl) rfl
theorem q1244 : (Jvm.Cond.selects "VeilMint" ({ cls := "VeilMint", name := "count", desc := "(I)I" } : Jvm.MethodName) ({ cls := "VeilMint", name := "count", desc := "(I)I" } : Jvm.MethodName)) ∈ lw_all := lw_g (lw_at lw_m5 187 rfl) rfl
theorem q1245 : (Jvm.Cond.code ({ cls := "VeilMint", name := "count", desc := "(I)I" } : Jvm.MethodName) prog_1_method_30_code (4 : Nat) (Option.some Jvm.ClassFile.FieldType.int)) ∈ lw_all := lw_g (lw_at lw_m5 188 rfl) rfl
theorem q1251 : (Jvm.Cond.instanceMethod ({ cls := "VeilMint", name := "retire", desc := "(I)Z" } : Jvm.MethodName)) ∈ lw_all := lw_g (lw_at lw_m5 194 rfl) rfl
theorem q1252 : (Jvm.Cond.selects "VeilMint" ({ cls := "VeilMint", name := "retire", desc := "(I)Z" } : Jvm.MethodName) ({ cls := "VeilMint", name := "retire", desc := "(I)Z" } : Jvm.MethodName)) ∈ lw_all := lw_g (lw_at lw_m5 195 rfl) rfl
theorem q1253 : (Jvm.Cond.code ({ cls := "VeilMint", name := "retire", desc := "(I)Z" } : Jvm.MethodName) prog_1_method_13_code (4 : Nat) (Option.some Jvm.ClassFile.FieldType.boolean)) ∈ lw_all := lw_g (lw_at lw_m5 196 rfl) rfl
theorem q1254 : (Jvm.Cond.methodLink "VeilMint" (144 : Nat) ({ cls := "VeilMint", name := "keyAt", desc := "(I)LVeilMint$Key;" } : Jvm.MethodName)) ∈ lw_all := lw_g (lw_at lw_m5 197 rfl) rfl
theorem q1255 : (Jvm.Cond.privateMethod ({ cls := "VeilMint", name := "keyAt", desc := "(I)LVeilMint$Key;" } : Jvm.MethodName)) ∈ lw_tbl := lw_at lw_m5 198 rfl
theorem q1256 : (Jvm.Cond.instanceMethod ({ cls := "VeilMint", name := "keyAt", desc := "(I)LVeilMint$Key;" } : Jvm.MethodName)) ∈ lw_all := lw_g (lw_at lw_m5 199 rfl) rfl
theorem q1257 : (Jvm.Cond.code ({ cls := "VeilMint", name := "keyAt", desc := "(I)LVeilMint$Key;" } : Jvm.MethodName) prog_1_method_11_code (2 : Nat) (Option.some (Jvm.ClassFile.FieldType.object "VeilMint$Key"))) ∈ lw_all := lw_g (lw_at lw_m5 200 rfl) rfl
theorem q1258 : (Jvm.Cond.classLink "VeilMint" (98 : Nat) "java/util/NoSuchElementException") ∈ lw_all := lw_g (lw_at lw_m5 201 rfl) rfl
theorem q1267 : (Jvm.Cond.methodLink "VeilMint" (100 : Nat) ({ cls := "java/util/NoSuchElementException", name := "<init>", desc := "()V" } : Jvm.MethodName)) ∈ lw_all := lw_g (lw_at lw_m5 210 rfl) rfl
theorem q1283 : (Jvm.Cond.instanceMethod ({ cls := "VeilMint", name := "look", desc := "(II)I" } : Jvm.MethodName)) ∈ lw_all := lw_g (lw_at lw_m5 226 rfl) rfl
theorem q1284 : (Jvm.Cond.selects "VeilMint" ({ cls := "VeilMint", name := "look", desc := "(II)I" } : Jvm.MethodName) ({ cls := "VeilMint", name := "look", desc := "(II)I" } : Jvm.MethodName)) ∈ lw_all := lw_g (lw_at lw_m5 227 rfl) rfl
theorem q1285 : (Jvm.Cond.code ({ cls := "VeilMint", name := "look", desc := "(II)I" } : Jvm.MethodName) prog_1_method_14_code (4 : Nat) (Option.some Jvm.ClassFile.FieldType.int)) ∈ lw_all := lw_g (lw_at lw_m5 228 rfl) rfl
theorem q1290 : (Jvm.Cond.instanceMethod ({ cls := "VeilMint", name := "finalize", desc := "(I)I" } : Jvm.MethodName)) ∈ lw_all := lw_g (lw_at lw_m5 233 rfl) rfl
theorem q1291 : (Jvm.Cond.selects "VeilMint" ({ cls := "VeilMint", name := "finalize", desc := "(I)I" } : Jvm.MethodName) ({ cls := "VeilMint", name := "finalize", desc := "(I)I" } : Jvm.MethodName)) ∈ lw_all := lw_g (lw_at lw_m5 234 rfl) rfl
theorem q1292 : (Jvm.Cond.code ({ cls := "VeilMint", name := "finalize", desc := "(I)I" } : Jvm.MethodName) prog_1_method_23_code (3 : Nat) (Option.some Jvm.ClassFile.FieldType.int)) ∈ lw_all := lw_g (lw_at lw_m5 235 rfl) rfl
theorem q1293 : (Jvm.Cond.methodLink "VeilMint" (208 : Nat) ({ cls := "VeilMint", name := "mustBeOpen", desc := "(I)V" } : Jvm.MethodName)) ∈ lw_all := lw_g (lw_at lw_m5 236 rfl) rfl
theorem q1294 : (Jvm.Cond.privateMethod ({ cls := "VeilMint", name := "mustBeOpen", desc := "(I)V" } : Jvm.MethodName)) ∈ lw_tbl := lw_at lw_m5 237 rfl
theorem q1295 : (Jvm.Cond.instanceMethod ({ cls := "VeilMint", name := "mustBeOpen", desc := "(I)V" } : Jvm.MethodName)) ∈ lw_all := lw_g (lw_at lw_m5 238 rfl) rfl
theorem q1296 : (Jvm.Cond.code ({ cls := "VeilMint", name := "mustBeOpen", desc := "(I)V" } : Jvm.MethodName) prog_1_method_22_code (2 : Nat) (Option.none : Option Jvm.ClassFile.FieldType)) ∈ lw_all := lw_g (lw_at lw_m5 239 rfl) rfl
theorem q1297 : (Jvm.Cond.methodLink "VeilMint" (211 : Nat) ({ cls := "VeilMint", name := "finished", desc := "(III)I" } : Jvm.MethodName)) ∈ lw_all := lw_g (lw_at lw_m6 0 rfl) rfl
theorem q1298 : (Jvm.Cond.privateMethod ({ cls := "VeilMint", name := "finished", desc := "(III)I" } : Jvm.MethodName)) ∈ lw_tbl := lw_at lw_m6 1 rfl
theorem q1299 : (Jvm.Cond.instanceMethod ({ cls := "VeilMint", name := "finished", desc := "(III)I" } : Jvm.MethodName)) ∈ lw_all := lw_g (lw_at lw_m6 2 rfl) rfl
theorem q1300 : (Jvm.Cond.codeWith ({ cls := "VeilMint", name := "finished", desc := "(III)I" } : Jvm.MethodName) prog_1_method_21_code (6 : Nat) (Option.some Jvm.ClassFile.FieldType.int) [((24 : Nat), (43 : Nat), (46 : Nat), (42 : Nat))]) ∈ lw_all := lw_g (lw_at lw_m6 3 rfl) rfl
theorem q1301 : (Jvm.Cond.methodLink "VeilMint" (201 : Nat) ({ cls := "VeilMint$Key", name := "finishes", desc := "([LVeilMint$Asking;II[B[B)V" } : Jvm.MethodName)) ∈ lw_all := lw_g (lw_at lw_m6 4 rfl) rfl
theorem q1318 : (Jvm.Cond.instanceMethod ({ cls := "VeilMint", name := "finalizeMany", desc := "(II)I" } : Jvm.MethodName)) ∈ lw_all := lw_g (lw_at lw_m6 21 rfl) rfl
theorem q1319 : (Jvm.Cond.selects "VeilMint" ({ cls := "VeilMint", name := "finalizeMany", desc := "(II)I" } : Jvm.MethodName) ({ cls := "VeilMint", name := "finalizeMany", desc := "(II)I" } : Jvm.MethodName)) ∈ lw_all := lw_g (lw_at lw_m6 22 rfl) rfl
theorem q1320 : (Jvm.Cond.code ({ cls := "VeilMint", name := "finalizeMany", desc := "(II)I" } : Jvm.MethodName) prog_1_method_24_code (6 : Nat) (Option.some Jvm.ClassFile.FieldType.int)) ∈ lw_all := lw_g (lw_at lw_m6 23 rfl) rfl
theorem q2142 : (Jvm.Cond.castable "VeilMint" "java/lang/Object") ∈ lw_tbl := lw_at lw_m9 125 rfl
theorem in_X1 : ∀ w ∈ wsX10, w ∈ lw_all := lw_in wsX10 [539, 541, 543, 545, 547, 549, 551, 553, 555, 557, 559, 561, 563, 565, 567] (by decide +kernel) (by decide +kernel)
/-! VeilMint$Digest256 -/
set_option maxRecDepth 100000
def RX3 : String := "VeilMint$Digest256"
def TX3 : u_T := fun k => match k with
  | 0 => ("VeilMint$Digest", "block", "[B", true)
  | 1 => ("VeilMint$Digest", "out", "[B", true)
  | 2 => ("VeilMint$Digest", "many", "J", false)
  | 3 => ("VeilMint$Digest", "at", "I", false)
  | 4 => ("VeilMint$Digest256", "h", "[I", true)
  | _ => ("VeilMint$Digest256", "w", "[I", true)
def tyX3 : Nat → FieldType := fun k => match k with
  | 0 => .array .byte
  | 1 => .array .byte
  | 2 => .long
  | 3 => .int
  | 4 => .array .int
  | _ => .array .int
abbrev wsX30 : List Cond := u_ws RX3 TX3 6
theorem nmX3 : ∀ a, a < 6 → ∀ b, b < 6 → a ≠ b → (TX3 a).2.1 ≠ (TX3 b).2.1 := by decide +kernel
theorem tyX3_ok : ∀ k, k < 6 → parseFieldDescriptor (TX3 k).2.2.1 = some (tyX3 k) := by decide +kernel
abbrev cX3_init : ByteArray := prog_5_method_1_code
def yX3_init : MethodName := ⟨RX3, "<init>", "()V"⟩
theorem dX3_init_0 : decode cX3_init 0 = .ok (.aload_n 0, 1) := by decide +kernel
theorem dX3_init_1 : decode cX3_init 1 = .ok (.bipush 64, 2) := by decide +kernel
theorem dX3_init_3 : decode cX3_init 3 = .ok (.bipush 32, 2) := by decide +kernel
theorem dX3_init_5 : decode cX3_init 5 = .ok (.invokespecial 1, 3) := by decide +kernel
theorem dX3_init_8 : decode cX3_init 8 = .ok (.aload_n 0, 1) := by decide +kernel
theorem dX3_init_9 : decode cX3_init 9 = .ok (.bipush 8, 2) := by decide +kernel
theorem dX3_init_11 : decode cX3_init 11 = .ok (.newarray .int, 2) := by decide +kernel
theorem dX3_init_13 : decode cX3_init 13 = .ok (.putfield 7, 3) := by decide +kernel
theorem dX3_init_16 : decode cX3_init 16 = .ok (.aload_n 0, 1) := by decide +kernel
theorem dX3_init_17 : decode cX3_init 17 = .ok (.bipush 64, 2) := by decide +kernel
theorem dX3_init_19 : decode cX3_init 19 = .ok (.newarray .int, 2) := by decide +kernel
theorem dX3_init_21 : decode cX3_init 21 = .ok (.putfield 13, 3) := by decide +kernel
theorem dX3_init_24 : decode cX3_init 24 = .ok (.return_, 1) := by decide +kernel
abbrev cX3_start : ByteArray := prog_5_method_2_code
def yX3_start : MethodName := ⟨RX3, "start", "()V"⟩
theorem dX3_start_0 : decode cX3_start 0 = .ok (.aload_n 0, 1) := by decide +kernel
theorem dX3_start_1 : decode cX3_start 1 = .ok (.getfield 7, 3) := by decide +kernel
theorem dX3_start_4 : decode cX3_start 4 = .ok (.iconst 0, 1) := by decide +kernel
theorem dX3_start_5 : decode cX3_start 5 = .ok (.ldc 16, 2) := by decide +kernel
theorem dX3_start_7 : decode cX3_start 7 = .ok (.iastore, 1) := by decide +kernel
theorem dX3_start_8 : decode cX3_start 8 = .ok (.aload_n 0, 1) := by decide +kernel
theorem dX3_start_9 : decode cX3_start 9 = .ok (.getfield 7, 3) := by decide +kernel
theorem dX3_start_12 : decode cX3_start 12 = .ok (.iconst 1, 1) := by decide +kernel
theorem dX3_start_13 : decode cX3_start 13 = .ok (.ldc 17, 2) := by decide +kernel
theorem dX3_start_15 : decode cX3_start 15 = .ok (.iastore, 1) := by decide +kernel
theorem dX3_start_16 : decode cX3_start 16 = .ok (.aload_n 0, 1) := by decide +kernel
theorem dX3_start_17 : decode cX3_start 17 = .ok (.getfield 7, 3) := by decide +kernel
theorem dX3_start_20 : decode cX3_start 20 = .ok (.iconst 2, 1) := by decide +kernel
theorem dX3_start_21 : decode cX3_start 21 = .ok (.ldc 18, 2) := by decide +kernel
theorem dX3_start_23 : decode cX3_start 23 = .ok (.iastore, 1) := by decide +kernel
theorem dX3_start_24 : decode cX3_start 24 = .ok (.aload_n 0, 1) := by decide +kernel
theorem dX3_start_25 : decode cX3_start 25 = .ok (.getfield 7, 3) := by decide +kernel
theorem dX3_start_28 : decode cX3_start 28 = .ok (.iconst 3, 1) := by decide +kernel
theorem dX3_start_29 : decode cX3_start 29 = .ok (.ldc 19, 2) := by decide +kernel
theorem dX3_start_31 : decode cX3_start 31 = .ok (.iastore, 1) := by decide +kernel
theorem dX3_start_32 : decode cX3_start 32 = .ok (.aload_n 0, 1) := by decide +kernel
theorem dX3_start_33 : decode cX3_start 33 = .ok (.getfield 7, 3) := by decide +kernel
theorem dX3_start_36 : decode cX3_start 36 = .ok (.iconst 4, 1) := by decide +kernel
theorem dX3_start_37 : decode cX3_start 37 = .ok (.ldc 20, 2) := by decide +kernel
theorem dX3_start_39 : decode cX3_start 39 = .ok (.iastore, 1) := by decide +kernel
theorem dX3_start_40 : decode cX3_start 40 = .ok (.aload_n 0, 1) := by decide +kernel
theorem dX3_start_41 : decode cX3_start 41 = .ok (.getfield 7, 3) := by decide +kernel
theorem dX3_start_44 : decode cX3_start 44 = .ok (.iconst 5, 1) := by decide +kernel
theorem dX3_start_45 : decode cX3_start 45 = .ok (.ldc 21, 2) := by decide +kernel
theorem dX3_start_47 : decode cX3_start 47 = .ok (.iastore, 1) := by decide +kernel
theorem dX3_start_48 : decode cX3_start 48 = .ok (.aload_n 0, 1) := by decide +kernel
theorem dX3_start_49 : decode cX3_start 49 = .ok (.getfield 7, 3) := by decide +kernel
theorem dX3_start_52 : decode cX3_start 52 = .ok (.bipush 6, 2) := by decide +kernel
theorem dX3_start_54 : decode cX3_start 54 = .ok (.ldc 22, 2) := by decide +kernel
theorem dX3_start_56 : decode cX3_start 56 = .ok (.iastore, 1) := by decide +kernel
theorem dX3_start_57 : decode cX3_start 57 = .ok (.aload_n 0, 1) := by decide +kernel
theorem dX3_start_58 : decode cX3_start 58 = .ok (.getfield 7, 3) := by decide +kernel
theorem dX3_start_61 : decode cX3_start 61 = .ok (.bipush 7, 2) := by decide +kernel
theorem dX3_start_63 : decode cX3_start 63 = .ok (.ldc 23, 2) := by decide +kernel
theorem dX3_start_65 : decode cX3_start 65 = .ok (.iastore, 1) := by decide +kernel
theorem dX3_start_66 : decode cX3_start 66 = .ok (.return_, 1) := by decide +kernel
abbrev cX3_mix : ByteArray := prog_5_method_3_code
def yX3_mix : MethodName := ⟨RX3, "mix", "()V"⟩
theorem dX3_mix_0 : decode cX3_mix 0 = .ok (.iconst 0, 1) := by decide +kernel
theorem dX3_mix_1 : decode cX3_mix 1 = .ok (.istore_n 1, 1) := by decide +kernel
theorem dX3_mix_2 : decode cX3_mix 2 = .ok (.iload_n 1, 1) := by decide +kernel
theorem dX3_mix_3 : decode cX3_mix 3 = .ok (.bipush 16, 2) := by decide +kernel
theorem dX3_mix_5 : decode cX3_mix 5 = .ok (.if_icmp .ge 81, 3) := by decide +kernel
theorem dX3_mix_8 : decode cX3_mix 8 = .ok (.aload_n 0, 1) := by decide +kernel
theorem dX3_mix_9 : decode cX3_mix 9 = .ok (.getfield 13, 3) := by decide +kernel
theorem dX3_mix_12 : decode cX3_mix 12 = .ok (.iload_n 1, 1) := by decide +kernel
theorem dX3_mix_13 : decode cX3_mix 13 = .ok (.aload_n 0, 1) := by decide +kernel
theorem dX3_mix_14 : decode cX3_mix 14 = .ok (.getfield 24, 3) := by decide +kernel
theorem dX3_mix_17 : decode cX3_mix 17 = .ok (.iconst 4, 1) := by decide +kernel
theorem dX3_mix_18 : decode cX3_mix 18 = .ok (.iload_n 1, 1) := by decide +kernel
theorem dX3_mix_19 : decode cX3_mix 19 = .ok (.imul, 1) := by decide +kernel
theorem dX3_mix_20 : decode cX3_mix 20 = .ok (.baload, 1) := by decide +kernel
theorem dX3_mix_21 : decode cX3_mix 21 = .ok (.sipush 255, 3) := by decide +kernel
theorem dX3_mix_24 : decode cX3_mix 24 = .ok (.iand, 1) := by decide +kernel
theorem dX3_mix_25 : decode cX3_mix 25 = .ok (.bipush 24, 2) := by decide +kernel
theorem dX3_mix_27 : decode cX3_mix 27 = .ok (.ishl, 1) := by decide +kernel
theorem dX3_mix_28 : decode cX3_mix 28 = .ok (.aload_n 0, 1) := by decide +kernel
theorem dX3_mix_29 : decode cX3_mix 29 = .ok (.getfield 24, 3) := by decide +kernel
theorem dX3_mix_32 : decode cX3_mix 32 = .ok (.iconst 4, 1) := by decide +kernel
theorem dX3_mix_33 : decode cX3_mix 33 = .ok (.iload_n 1, 1) := by decide +kernel
theorem dX3_mix_34 : decode cX3_mix 34 = .ok (.imul, 1) := by decide +kernel
theorem dX3_mix_35 : decode cX3_mix 35 = .ok (.iconst 1, 1) := by decide +kernel
theorem dX3_mix_36 : decode cX3_mix 36 = .ok (.iadd, 1) := by decide +kernel
theorem dX3_mix_37 : decode cX3_mix 37 = .ok (.baload, 1) := by decide +kernel
theorem dX3_mix_38 : decode cX3_mix 38 = .ok (.sipush 255, 3) := by decide +kernel
theorem dX3_mix_41 : decode cX3_mix 41 = .ok (.iand, 1) := by decide +kernel
theorem dX3_mix_42 : decode cX3_mix 42 = .ok (.bipush 16, 2) := by decide +kernel
theorem dX3_mix_44 : decode cX3_mix 44 = .ok (.ishl, 1) := by decide +kernel
theorem dX3_mix_45 : decode cX3_mix 45 = .ok (.ior, 1) := by decide +kernel
theorem dX3_mix_46 : decode cX3_mix 46 = .ok (.aload_n 0, 1) := by decide +kernel
theorem dX3_mix_47 : decode cX3_mix 47 = .ok (.getfield 24, 3) := by decide +kernel
theorem dX3_mix_50 : decode cX3_mix 50 = .ok (.iconst 4, 1) := by decide +kernel
theorem dX3_mix_51 : decode cX3_mix 51 = .ok (.iload_n 1, 1) := by decide +kernel
theorem dX3_mix_52 : decode cX3_mix 52 = .ok (.imul, 1) := by decide +kernel
theorem dX3_mix_53 : decode cX3_mix 53 = .ok (.iconst 2, 1) := by decide +kernel
theorem dX3_mix_54 : decode cX3_mix 54 = .ok (.iadd, 1) := by decide +kernel
theorem dX3_mix_55 : decode cX3_mix 55 = .ok (.baload, 1) := by decide +kernel
theorem dX3_mix_56 : decode cX3_mix 56 = .ok (.sipush 255, 3) := by decide +kernel
theorem dX3_mix_59 : decode cX3_mix 59 = .ok (.iand, 1) := by decide +kernel
theorem dX3_mix_60 : decode cX3_mix 60 = .ok (.bipush 8, 2) := by decide +kernel
theorem dX3_mix_62 : decode cX3_mix 62 = .ok (.ishl, 1) := by decide +kernel
theorem dX3_mix_63 : decode cX3_mix 63 = .ok (.ior, 1) := by decide +kernel
theorem dX3_mix_64 : decode cX3_mix 64 = .ok (.aload_n 0, 1) := by decide +kernel
theorem dX3_mix_65 : decode cX3_mix 65 = .ok (.getfield 24, 3) := by decide +kernel
theorem dX3_mix_68 : decode cX3_mix 68 = .ok (.iconst 4, 1) := by decide +kernel
theorem dX3_mix_69 : decode cX3_mix 69 = .ok (.iload_n 1, 1) := by decide +kernel
theorem dX3_mix_70 : decode cX3_mix 70 = .ok (.imul, 1) := by decide +kernel
theorem dX3_mix_71 : decode cX3_mix 71 = .ok (.iconst 3, 1) := by decide +kernel
theorem dX3_mix_72 : decode cX3_mix 72 = .ok (.iadd, 1) := by decide +kernel
theorem dX3_mix_73 : decode cX3_mix 73 = .ok (.baload, 1) := by decide +kernel
theorem dX3_mix_74 : decode cX3_mix 74 = .ok (.sipush 255, 3) := by decide +kernel
theorem dX3_mix_77 : decode cX3_mix 77 = .ok (.iand, 1) := by decide +kernel
theorem dX3_mix_78 : decode cX3_mix 78 = .ok (.ior, 1) := by decide +kernel
theorem dX3_mix_79 : decode cX3_mix 79 = .ok (.iastore, 1) := by decide +kernel
theorem dX3_mix_80 : decode cX3_mix 80 = .ok (.iinc 1 1, 3) := by decide +kernel
theorem dX3_mix_83 : decode cX3_mix 83 = .ok (.goto (-81), 3) := by decide +kernel
theorem dX3_mix_86 : decode cX3_mix 86 = .ok (.bipush 16, 2) := by decide +kernel
theorem dX3_mix_88 : decode cX3_mix 88 = .ok (.istore_n 1, 1) := by decide +kernel
theorem dX3_mix_89 : decode cX3_mix 89 = .ok (.iload_n 1, 1) := by decide +kernel
theorem dX3_mix_90 : decode cX3_mix 90 = .ok (.bipush 64, 2) := by decide +kernel
theorem dX3_mix_92 : decode cX3_mix 92 = .ok (.if_icmp .ge 120, 3) := by decide +kernel
theorem dX3_mix_95 : decode cX3_mix 95 = .ok (.aload_n 0, 1) := by decide +kernel
theorem dX3_mix_96 : decode cX3_mix 96 = .ok (.getfield 13, 3) := by decide +kernel
theorem dX3_mix_99 : decode cX3_mix 99 = .ok (.iload_n 1, 1) := by decide +kernel
theorem dX3_mix_100 : decode cX3_mix 100 = .ok (.bipush 15, 2) := by decide +kernel
theorem dX3_mix_102 : decode cX3_mix 102 = .ok (.isub, 1) := by decide +kernel
theorem dX3_mix_103 : decode cX3_mix 103 = .ok (.iaload, 1) := by decide +kernel
theorem dX3_mix_104 : decode cX3_mix 104 = .ok (.bipush 7, 2) := by decide +kernel
theorem dX3_mix_106 : decode cX3_mix 106 = .ok (.invokestatic 28, 3) := by decide +kernel
theorem dX3_mix_109 : decode cX3_mix 109 = .ok (.aload_n 0, 1) := by decide +kernel
theorem dX3_mix_110 : decode cX3_mix 110 = .ok (.getfield 13, 3) := by decide +kernel
theorem dX3_mix_113 : decode cX3_mix 113 = .ok (.iload_n 1, 1) := by decide +kernel
theorem dX3_mix_114 : decode cX3_mix 114 = .ok (.bipush 15, 2) := by decide +kernel
theorem dX3_mix_116 : decode cX3_mix 116 = .ok (.isub, 1) := by decide +kernel
theorem dX3_mix_117 : decode cX3_mix 117 = .ok (.iaload, 1) := by decide +kernel
theorem dX3_mix_118 : decode cX3_mix 118 = .ok (.bipush 18, 2) := by decide +kernel
theorem dX3_mix_120 : decode cX3_mix 120 = .ok (.invokestatic 28, 3) := by decide +kernel
theorem dX3_mix_123 : decode cX3_mix 123 = .ok (.ixor, 1) := by decide +kernel
theorem dX3_mix_124 : decode cX3_mix 124 = .ok (.aload_n 0, 1) := by decide +kernel
theorem dX3_mix_125 : decode cX3_mix 125 = .ok (.getfield 13, 3) := by decide +kernel
theorem dX3_mix_128 : decode cX3_mix 128 = .ok (.iload_n 1, 1) := by decide +kernel
theorem dX3_mix_129 : decode cX3_mix 129 = .ok (.bipush 15, 2) := by decide +kernel
theorem dX3_mix_131 : decode cX3_mix 131 = .ok (.isub, 1) := by decide +kernel
theorem dX3_mix_132 : decode cX3_mix 132 = .ok (.iaload, 1) := by decide +kernel
theorem dX3_mix_133 : decode cX3_mix 133 = .ok (.iconst 3, 1) := by decide +kernel
theorem dX3_mix_134 : decode cX3_mix 134 = .ok (.iushr, 1) := by decide +kernel
theorem dX3_mix_135 : decode cX3_mix 135 = .ok (.ixor, 1) := by decide +kernel
theorem dX3_mix_136 : decode cX3_mix 136 = .ok (.istore_n 2, 1) := by decide +kernel
theorem dX3_mix_137 : decode cX3_mix 137 = .ok (.aload_n 0, 1) := by decide +kernel
theorem dX3_mix_138 : decode cX3_mix 138 = .ok (.getfield 13, 3) := by decide +kernel
theorem dX3_mix_141 : decode cX3_mix 141 = .ok (.iload_n 1, 1) := by decide +kernel
theorem dX3_mix_142 : decode cX3_mix 142 = .ok (.iconst 2, 1) := by decide +kernel
theorem dX3_mix_143 : decode cX3_mix 143 = .ok (.isub, 1) := by decide +kernel
theorem dX3_mix_144 : decode cX3_mix 144 = .ok (.iaload, 1) := by decide +kernel
theorem dX3_mix_145 : decode cX3_mix 145 = .ok (.bipush 17, 2) := by decide +kernel
theorem dX3_mix_147 : decode cX3_mix 147 = .ok (.invokestatic 28, 3) := by decide +kernel
theorem dX3_mix_150 : decode cX3_mix 150 = .ok (.aload_n 0, 1) := by decide +kernel
theorem dX3_mix_151 : decode cX3_mix 151 = .ok (.getfield 13, 3) := by decide +kernel
theorem dX3_mix_154 : decode cX3_mix 154 = .ok (.iload_n 1, 1) := by decide +kernel
theorem dX3_mix_155 : decode cX3_mix 155 = .ok (.iconst 2, 1) := by decide +kernel
theorem dX3_mix_156 : decode cX3_mix 156 = .ok (.isub, 1) := by decide +kernel
theorem dX3_mix_157 : decode cX3_mix 157 = .ok (.iaload, 1) := by decide +kernel
theorem dX3_mix_158 : decode cX3_mix 158 = .ok (.bipush 19, 2) := by decide +kernel
theorem dX3_mix_160 : decode cX3_mix 160 = .ok (.invokestatic 28, 3) := by decide +kernel
theorem dX3_mix_163 : decode cX3_mix 163 = .ok (.ixor, 1) := by decide +kernel
theorem dX3_mix_164 : decode cX3_mix 164 = .ok (.aload_n 0, 1) := by decide +kernel
theorem dX3_mix_165 : decode cX3_mix 165 = .ok (.getfield 13, 3) := by decide +kernel
theorem dX3_mix_168 : decode cX3_mix 168 = .ok (.iload_n 1, 1) := by decide +kernel
theorem dX3_mix_169 : decode cX3_mix 169 = .ok (.iconst 2, 1) := by decide +kernel
theorem dX3_mix_170 : decode cX3_mix 170 = .ok (.isub, 1) := by decide +kernel
theorem dX3_mix_171 : decode cX3_mix 171 = .ok (.iaload, 1) := by decide +kernel
theorem dX3_mix_172 : decode cX3_mix 172 = .ok (.bipush 10, 2) := by decide +kernel
theorem dX3_mix_174 : decode cX3_mix 174 = .ok (.iushr, 1) := by decide +kernel
theorem dX3_mix_175 : decode cX3_mix 175 = .ok (.ixor, 1) := by decide +kernel
theorem dX3_mix_176 : decode cX3_mix 176 = .ok (.istore_n 3, 1) := by decide +kernel
theorem dX3_mix_177 : decode cX3_mix 177 = .ok (.aload_n 0, 1) := by decide +kernel
theorem dX3_mix_178 : decode cX3_mix 178 = .ok (.getfield 13, 3) := by decide +kernel
theorem dX3_mix_181 : decode cX3_mix 181 = .ok (.iload_n 1, 1) := by decide +kernel
theorem dX3_mix_182 : decode cX3_mix 182 = .ok (.aload_n 0, 1) := by decide +kernel
theorem dX3_mix_183 : decode cX3_mix 183 = .ok (.getfield 13, 3) := by decide +kernel
theorem dX3_mix_186 : decode cX3_mix 186 = .ok (.iload_n 1, 1) := by decide +kernel
theorem dX3_mix_187 : decode cX3_mix 187 = .ok (.bipush 16, 2) := by decide +kernel
theorem dX3_mix_189 : decode cX3_mix 189 = .ok (.isub, 1) := by decide +kernel
theorem dX3_mix_190 : decode cX3_mix 190 = .ok (.iaload, 1) := by decide +kernel
theorem dX3_mix_191 : decode cX3_mix 191 = .ok (.iload_n 2, 1) := by decide +kernel
theorem dX3_mix_192 : decode cX3_mix 192 = .ok (.iadd, 1) := by decide +kernel
theorem dX3_mix_193 : decode cX3_mix 193 = .ok (.aload_n 0, 1) := by decide +kernel
theorem dX3_mix_194 : decode cX3_mix 194 = .ok (.getfield 13, 3) := by decide +kernel
theorem dX3_mix_197 : decode cX3_mix 197 = .ok (.iload_n 1, 1) := by decide +kernel
theorem dX3_mix_198 : decode cX3_mix 198 = .ok (.bipush 7, 2) := by decide +kernel
theorem dX3_mix_200 : decode cX3_mix 200 = .ok (.isub, 1) := by decide +kernel
theorem dX3_mix_201 : decode cX3_mix 201 = .ok (.iaload, 1) := by decide +kernel
theorem dX3_mix_202 : decode cX3_mix 202 = .ok (.iadd, 1) := by decide +kernel
theorem dX3_mix_203 : decode cX3_mix 203 = .ok (.iload_n 3, 1) := by decide +kernel
theorem dX3_mix_204 : decode cX3_mix 204 = .ok (.iadd, 1) := by decide +kernel
theorem dX3_mix_205 : decode cX3_mix 205 = .ok (.iastore, 1) := by decide +kernel
theorem dX3_mix_206 : decode cX3_mix 206 = .ok (.iinc 1 1, 3) := by decide +kernel
theorem dX3_mix_209 : decode cX3_mix 209 = .ok (.goto (-120), 3) := by decide +kernel
theorem dX3_mix_212 : decode cX3_mix 212 = .ok (.aload_n 0, 1) := by decide +kernel
theorem dX3_mix_213 : decode cX3_mix 213 = .ok (.getfield 7, 3) := by decide +kernel
theorem dX3_mix_216 : decode cX3_mix 216 = .ok (.iconst 0, 1) := by decide +kernel
theorem dX3_mix_217 : decode cX3_mix 217 = .ok (.iaload, 1) := by decide +kernel
theorem dX3_mix_218 : decode cX3_mix 218 = .ok (.istore_n 1, 1) := by decide +kernel
theorem dX3_mix_219 : decode cX3_mix 219 = .ok (.aload_n 0, 1) := by decide +kernel
theorem dX3_mix_220 : decode cX3_mix 220 = .ok (.getfield 7, 3) := by decide +kernel
theorem dX3_mix_223 : decode cX3_mix 223 = .ok (.iconst 1, 1) := by decide +kernel
theorem dX3_mix_224 : decode cX3_mix 224 = .ok (.iaload, 1) := by decide +kernel
theorem dX3_mix_225 : decode cX3_mix 225 = .ok (.istore_n 2, 1) := by decide +kernel
theorem dX3_mix_226 : decode cX3_mix 226 = .ok (.aload_n 0, 1) := by decide +kernel
theorem dX3_mix_227 : decode cX3_mix 227 = .ok (.getfield 7, 3) := by decide +kernel
theorem dX3_mix_230 : decode cX3_mix 230 = .ok (.iconst 2, 1) := by decide +kernel
theorem dX3_mix_231 : decode cX3_mix 231 = .ok (.iaload, 1) := by decide +kernel
theorem dX3_mix_232 : decode cX3_mix 232 = .ok (.istore_n 3, 1) := by decide +kernel
theorem dX3_mix_233 : decode cX3_mix 233 = .ok (.aload_n 0, 1) := by decide +kernel
theorem dX3_mix_234 : decode cX3_mix 234 = .ok (.getfield 7, 3) := by decide +kernel
theorem dX3_mix_237 : decode cX3_mix 237 = .ok (.iconst 3, 1) := by decide +kernel
theorem dX3_mix_238 : decode cX3_mix 238 = .ok (.iaload, 1) := by decide +kernel
theorem dX3_mix_239 : decode cX3_mix 239 = .ok (.istore 4, 2) := by decide +kernel
theorem dX3_mix_241 : decode cX3_mix 241 = .ok (.aload_n 0, 1) := by decide +kernel
theorem dX3_mix_242 : decode cX3_mix 242 = .ok (.getfield 7, 3) := by decide +kernel
theorem dX3_mix_245 : decode cX3_mix 245 = .ok (.iconst 4, 1) := by decide +kernel
theorem dX3_mix_246 : decode cX3_mix 246 = .ok (.iaload, 1) := by decide +kernel
theorem dX3_mix_247 : decode cX3_mix 247 = .ok (.istore 5, 2) := by decide +kernel
theorem dX3_mix_249 : decode cX3_mix 249 = .ok (.aload_n 0, 1) := by decide +kernel
theorem dX3_mix_250 : decode cX3_mix 250 = .ok (.getfield 7, 3) := by decide +kernel
theorem dX3_mix_253 : decode cX3_mix 253 = .ok (.iconst 5, 1) := by decide +kernel
theorem dX3_mix_254 : decode cX3_mix 254 = .ok (.iaload, 1) := by decide +kernel
theorem dX3_mix_255 : decode cX3_mix 255 = .ok (.istore 6, 2) := by decide +kernel
theorem dX3_mix_257 : decode cX3_mix 257 = .ok (.aload_n 0, 1) := by decide +kernel
theorem dX3_mix_258 : decode cX3_mix 258 = .ok (.getfield 7, 3) := by decide +kernel
theorem dX3_mix_261 : decode cX3_mix 261 = .ok (.bipush 6, 2) := by decide +kernel
theorem dX3_mix_263 : decode cX3_mix 263 = .ok (.iaload, 1) := by decide +kernel
theorem dX3_mix_264 : decode cX3_mix 264 = .ok (.istore 7, 2) := by decide +kernel
theorem dX3_mix_266 : decode cX3_mix 266 = .ok (.aload_n 0, 1) := by decide +kernel
theorem dX3_mix_267 : decode cX3_mix 267 = .ok (.getfield 7, 3) := by decide +kernel
theorem dX3_mix_270 : decode cX3_mix 270 = .ok (.bipush 7, 2) := by decide +kernel
theorem dX3_mix_272 : decode cX3_mix 272 = .ok (.iaload, 1) := by decide +kernel
theorem dX3_mix_273 : decode cX3_mix 273 = .ok (.istore 8, 2) := by decide +kernel
theorem dX3_mix_275 : decode cX3_mix 275 = .ok (.iconst 0, 1) := by decide +kernel
theorem dX3_mix_276 : decode cX3_mix 276 = .ok (.istore 9, 2) := by decide +kernel
theorem dX3_mix_278 : decode cX3_mix 278 = .ok (.iload 9, 2) := by decide +kernel
theorem dX3_mix_280 : decode cX3_mix 280 = .ok (.bipush 64, 2) := by decide +kernel
theorem dX3_mix_282 : decode cX3_mix 282 = .ok (.if_icmp .ge 131, 3) := by decide +kernel
theorem dX3_mix_285 : decode cX3_mix 285 = .ok (.iload 8, 2) := by decide +kernel
theorem dX3_mix_287 : decode cX3_mix 287 = .ok (.iload 5, 2) := by decide +kernel
theorem dX3_mix_289 : decode cX3_mix 289 = .ok (.bipush 6, 2) := by decide +kernel
theorem dX3_mix_291 : decode cX3_mix 291 = .ok (.invokestatic 28, 3) := by decide +kernel
theorem dX3_mix_294 : decode cX3_mix 294 = .ok (.iload 5, 2) := by decide +kernel
theorem dX3_mix_296 : decode cX3_mix 296 = .ok (.bipush 11, 2) := by decide +kernel
theorem dX3_mix_298 : decode cX3_mix 298 = .ok (.invokestatic 28, 3) := by decide +kernel
theorem dX3_mix_301 : decode cX3_mix 301 = .ok (.ixor, 1) := by decide +kernel
theorem dX3_mix_302 : decode cX3_mix 302 = .ok (.iload 5, 2) := by decide +kernel
theorem dX3_mix_304 : decode cX3_mix 304 = .ok (.bipush 25, 2) := by decide +kernel
theorem dX3_mix_306 : decode cX3_mix 306 = .ok (.invokestatic 28, 3) := by decide +kernel
theorem dX3_mix_309 : decode cX3_mix 309 = .ok (.ixor, 1) := by decide +kernel
theorem dX3_mix_310 : decode cX3_mix 310 = .ok (.iadd, 1) := by decide +kernel
theorem dX3_mix_311 : decode cX3_mix 311 = .ok (.iload 5, 2) := by decide +kernel
theorem dX3_mix_313 : decode cX3_mix 313 = .ok (.iload 6, 2) := by decide +kernel
theorem dX3_mix_315 : decode cX3_mix 315 = .ok (.iand, 1) := by decide +kernel
theorem dX3_mix_316 : decode cX3_mix 316 = .ok (.iload 5, 2) := by decide +kernel
theorem dX3_mix_318 : decode cX3_mix 318 = .ok (.iconst (-1), 1) := by decide +kernel
theorem dX3_mix_319 : decode cX3_mix 319 = .ok (.ixor, 1) := by decide +kernel
theorem dX3_mix_320 : decode cX3_mix 320 = .ok (.iload 7, 2) := by decide +kernel
theorem dX3_mix_322 : decode cX3_mix 322 = .ok (.iand, 1) := by decide +kernel
theorem dX3_mix_323 : decode cX3_mix 323 = .ok (.ixor, 1) := by decide +kernel
theorem dX3_mix_324 : decode cX3_mix 324 = .ok (.iadd, 1) := by decide +kernel
theorem dX3_mix_325 : decode cX3_mix 325 = .ok (.getstatic 34, 3) := by decide +kernel
theorem dX3_mix_328 : decode cX3_mix 328 = .ok (.iload 9, 2) := by decide +kernel
theorem dX3_mix_330 : decode cX3_mix 330 = .ok (.iaload, 1) := by decide +kernel
theorem dX3_mix_331 : decode cX3_mix 331 = .ok (.iadd, 1) := by decide +kernel
theorem dX3_mix_332 : decode cX3_mix 332 = .ok (.aload_n 0, 1) := by decide +kernel
theorem dX3_mix_333 : decode cX3_mix 333 = .ok (.getfield 13, 3) := by decide +kernel
theorem dX3_mix_336 : decode cX3_mix 336 = .ok (.iload 9, 2) := by decide +kernel
theorem dX3_mix_338 : decode cX3_mix 338 = .ok (.iaload, 1) := by decide +kernel
theorem dX3_mix_339 : decode cX3_mix 339 = .ok (.iadd, 1) := by decide +kernel
theorem dX3_mix_340 : decode cX3_mix 340 = .ok (.istore 10, 2) := by decide +kernel
theorem dX3_mix_342 : decode cX3_mix 342 = .ok (.iload_n 1, 1) := by decide +kernel
theorem dX3_mix_343 : decode cX3_mix 343 = .ok (.iconst 2, 1) := by decide +kernel
theorem dX3_mix_344 : decode cX3_mix 344 = .ok (.invokestatic 28, 3) := by decide +kernel
theorem dX3_mix_347 : decode cX3_mix 347 = .ok (.iload_n 1, 1) := by decide +kernel
theorem dX3_mix_348 : decode cX3_mix 348 = .ok (.bipush 13, 2) := by decide +kernel
theorem dX3_mix_350 : decode cX3_mix 350 = .ok (.invokestatic 28, 3) := by decide +kernel
theorem dX3_mix_353 : decode cX3_mix 353 = .ok (.ixor, 1) := by decide +kernel
theorem dX3_mix_354 : decode cX3_mix 354 = .ok (.iload_n 1, 1) := by decide +kernel
theorem dX3_mix_355 : decode cX3_mix 355 = .ok (.bipush 22, 2) := by decide +kernel
theorem dX3_mix_357 : decode cX3_mix 357 = .ok (.invokestatic 28, 3) := by decide +kernel
theorem dX3_mix_360 : decode cX3_mix 360 = .ok (.ixor, 1) := by decide +kernel
theorem dX3_mix_361 : decode cX3_mix 361 = .ok (.iload_n 1, 1) := by decide +kernel
theorem dX3_mix_362 : decode cX3_mix 362 = .ok (.iload_n 2, 1) := by decide +kernel
theorem dX3_mix_363 : decode cX3_mix 363 = .ok (.iand, 1) := by decide +kernel
theorem dX3_mix_364 : decode cX3_mix 364 = .ok (.iload_n 1, 1) := by decide +kernel
theorem dX3_mix_365 : decode cX3_mix 365 = .ok (.iload_n 3, 1) := by decide +kernel
theorem dX3_mix_366 : decode cX3_mix 366 = .ok (.iand, 1) := by decide +kernel
theorem dX3_mix_367 : decode cX3_mix 367 = .ok (.ixor, 1) := by decide +kernel
theorem dX3_mix_368 : decode cX3_mix 368 = .ok (.iload_n 2, 1) := by decide +kernel
theorem dX3_mix_369 : decode cX3_mix 369 = .ok (.iload_n 3, 1) := by decide +kernel
theorem dX3_mix_370 : decode cX3_mix 370 = .ok (.iand, 1) := by decide +kernel
theorem dX3_mix_371 : decode cX3_mix 371 = .ok (.ixor, 1) := by decide +kernel
theorem dX3_mix_372 : decode cX3_mix 372 = .ok (.iadd, 1) := by decide +kernel
theorem dX3_mix_373 : decode cX3_mix 373 = .ok (.istore 11, 2) := by decide +kernel
theorem dX3_mix_375 : decode cX3_mix 375 = .ok (.iload 7, 2) := by decide +kernel
theorem dX3_mix_377 : decode cX3_mix 377 = .ok (.istore 8, 2) := by decide +kernel
theorem dX3_mix_379 : decode cX3_mix 379 = .ok (.iload 6, 2) := by decide +kernel
theorem dX3_mix_381 : decode cX3_mix 381 = .ok (.istore 7, 2) := by decide +kernel
theorem dX3_mix_383 : decode cX3_mix 383 = .ok (.iload 5, 2) := by decide +kernel
theorem dX3_mix_385 : decode cX3_mix 385 = .ok (.istore 6, 2) := by decide +kernel
theorem dX3_mix_387 : decode cX3_mix 387 = .ok (.iload 4, 2) := by decide +kernel
theorem dX3_mix_389 : decode cX3_mix 389 = .ok (.iload 10, 2) := by decide +kernel
theorem dX3_mix_391 : decode cX3_mix 391 = .ok (.iadd, 1) := by decide +kernel
theorem dX3_mix_392 : decode cX3_mix 392 = .ok (.istore 5, 2) := by decide +kernel
theorem dX3_mix_394 : decode cX3_mix 394 = .ok (.iload_n 3, 1) := by decide +kernel
theorem dX3_mix_395 : decode cX3_mix 395 = .ok (.istore 4, 2) := by decide +kernel
theorem dX3_mix_397 : decode cX3_mix 397 = .ok (.iload_n 2, 1) := by decide +kernel
theorem dX3_mix_398 : decode cX3_mix 398 = .ok (.istore_n 3, 1) := by decide +kernel
theorem dX3_mix_399 : decode cX3_mix 399 = .ok (.iload_n 1, 1) := by decide +kernel
theorem dX3_mix_400 : decode cX3_mix 400 = .ok (.istore_n 2, 1) := by decide +kernel
theorem dX3_mix_401 : decode cX3_mix 401 = .ok (.iload 10, 2) := by decide +kernel
theorem dX3_mix_403 : decode cX3_mix 403 = .ok (.iload 11, 2) := by decide +kernel
theorem dX3_mix_405 : decode cX3_mix 405 = .ok (.iadd, 1) := by decide +kernel
theorem dX3_mix_406 : decode cX3_mix 406 = .ok (.istore_n 1, 1) := by decide +kernel
theorem dX3_mix_407 : decode cX3_mix 407 = .ok (.iinc 9 1, 3) := by decide +kernel
theorem dX3_mix_410 : decode cX3_mix 410 = .ok (.goto (-132), 3) := by decide +kernel
theorem dX3_mix_413 : decode cX3_mix 413 = .ok (.aload_n 0, 1) := by decide +kernel
theorem dX3_mix_414 : decode cX3_mix 414 = .ok (.getfield 7, 3) := by decide +kernel
theorem dX3_mix_417 : decode cX3_mix 417 = .ok (.iconst 0, 1) := by decide +kernel
theorem dX3_mix_418 : decode cX3_mix 418 = .ok (.dup2, 1) := by decide +kernel
theorem dX3_mix_419 : decode cX3_mix 419 = .ok (.iaload, 1) := by decide +kernel
theorem dX3_mix_420 : decode cX3_mix 420 = .ok (.iload_n 1, 1) := by decide +kernel
theorem dX3_mix_421 : decode cX3_mix 421 = .ok (.iadd, 1) := by decide +kernel
theorem dX3_mix_422 : decode cX3_mix 422 = .ok (.iastore, 1) := by decide +kernel
theorem dX3_mix_423 : decode cX3_mix 423 = .ok (.aload_n 0, 1) := by decide +kernel
theorem dX3_mix_424 : decode cX3_mix 424 = .ok (.getfield 7, 3) := by decide +kernel
theorem dX3_mix_427 : decode cX3_mix 427 = .ok (.iconst 1, 1) := by decide +kernel
theorem dX3_mix_428 : decode cX3_mix 428 = .ok (.dup2, 1) := by decide +kernel
theorem dX3_mix_429 : decode cX3_mix 429 = .ok (.iaload, 1) := by decide +kernel
theorem dX3_mix_430 : decode cX3_mix 430 = .ok (.iload_n 2, 1) := by decide +kernel
theorem dX3_mix_431 : decode cX3_mix 431 = .ok (.iadd, 1) := by decide +kernel
theorem dX3_mix_432 : decode cX3_mix 432 = .ok (.iastore, 1) := by decide +kernel
theorem dX3_mix_433 : decode cX3_mix 433 = .ok (.aload_n 0, 1) := by decide +kernel
theorem dX3_mix_434 : decode cX3_mix 434 = .ok (.getfield 7, 3) := by decide +kernel
theorem dX3_mix_437 : decode cX3_mix 437 = .ok (.iconst 2, 1) := by decide +kernel
theorem dX3_mix_438 : decode cX3_mix 438 = .ok (.dup2, 1) := by decide +kernel
theorem dX3_mix_439 : decode cX3_mix 439 = .ok (.iaload, 1) := by decide +kernel
theorem dX3_mix_440 : decode cX3_mix 440 = .ok (.iload_n 3, 1) := by decide +kernel
theorem dX3_mix_441 : decode cX3_mix 441 = .ok (.iadd, 1) := by decide +kernel
theorem dX3_mix_442 : decode cX3_mix 442 = .ok (.iastore, 1) := by decide +kernel
theorem dX3_mix_443 : decode cX3_mix 443 = .ok (.aload_n 0, 1) := by decide +kernel
theorem dX3_mix_444 : decode cX3_mix 444 = .ok (.getfield 7, 3) := by decide +kernel
theorem dX3_mix_447 : decode cX3_mix 447 = .ok (.iconst 3, 1) := by decide +kernel
theorem dX3_mix_448 : decode cX3_mix 448 = .ok (.dup2, 1) := by decide +kernel
theorem dX3_mix_449 : decode cX3_mix 449 = .ok (.iaload, 1) := by decide +kernel
theorem dX3_mix_450 : decode cX3_mix 450 = .ok (.iload 4, 2) := by decide +kernel
theorem dX3_mix_452 : decode cX3_mix 452 = .ok (.iadd, 1) := by decide +kernel
theorem dX3_mix_453 : decode cX3_mix 453 = .ok (.iastore, 1) := by decide +kernel
theorem dX3_mix_454 : decode cX3_mix 454 = .ok (.aload_n 0, 1) := by decide +kernel
theorem dX3_mix_455 : decode cX3_mix 455 = .ok (.getfield 7, 3) := by decide +kernel
theorem dX3_mix_458 : decode cX3_mix 458 = .ok (.iconst 4, 1) := by decide +kernel
theorem dX3_mix_459 : decode cX3_mix 459 = .ok (.dup2, 1) := by decide +kernel
theorem dX3_mix_460 : decode cX3_mix 460 = .ok (.iaload, 1) := by decide +kernel
theorem dX3_mix_461 : decode cX3_mix 461 = .ok (.iload 5, 2) := by decide +kernel
theorem dX3_mix_463 : decode cX3_mix 463 = .ok (.iadd, 1) := by decide +kernel
theorem dX3_mix_464 : decode cX3_mix 464 = .ok (.iastore, 1) := by decide +kernel
theorem dX3_mix_465 : decode cX3_mix 465 = .ok (.aload_n 0, 1) := by decide +kernel
theorem dX3_mix_466 : decode cX3_mix 466 = .ok (.getfield 7, 3) := by decide +kernel
theorem dX3_mix_469 : decode cX3_mix 469 = .ok (.iconst 5, 1) := by decide +kernel
theorem dX3_mix_470 : decode cX3_mix 470 = .ok (.dup2, 1) := by decide +kernel
theorem dX3_mix_471 : decode cX3_mix 471 = .ok (.iaload, 1) := by decide +kernel
theorem dX3_mix_472 : decode cX3_mix 472 = .ok (.iload 6, 2) := by decide +kernel
theorem dX3_mix_474 : decode cX3_mix 474 = .ok (.iadd, 1) := by decide +kernel
theorem dX3_mix_475 : decode cX3_mix 475 = .ok (.iastore, 1) := by decide +kernel
theorem dX3_mix_476 : decode cX3_mix 476 = .ok (.aload_n 0, 1) := by decide +kernel
theorem dX3_mix_477 : decode cX3_mix 477 = .ok (.getfield 7, 3) := by decide +kernel
theorem dX3_mix_480 : decode cX3_mix 480 = .ok (.bipush 6, 2) := by decide +kernel
theorem dX3_mix_482 : decode cX3_mix 482 = .ok (.dup2, 1) := by decide +kernel
theorem dX3_mix_483 : decode cX3_mix 483 = .ok (.iaload, 1) := by decide +kernel
theorem dX3_mix_484 : decode cX3_mix 484 = .ok (.iload 7, 2) := by decide +kernel
theorem dX3_mix_486 : decode cX3_mix 486 = .ok (.iadd, 1) := by decide +kernel
theorem dX3_mix_487 : decode cX3_mix 487 = .ok (.iastore, 1) := by decide +kernel
theorem dX3_mix_488 : decode cX3_mix 488 = .ok (.aload_n 0, 1) := by decide +kernel
theorem dX3_mix_489 : decode cX3_mix 489 = .ok (.getfield 7, 3) := by decide +kernel
theorem dX3_mix_492 : decode cX3_mix 492 = .ok (.bipush 7, 2) := by decide +kernel
theorem dX3_mix_494 : decode cX3_mix 494 = .ok (.dup2, 1) := by decide +kernel
theorem dX3_mix_495 : decode cX3_mix 495 = .ok (.iaload, 1) := by decide +kernel
theorem dX3_mix_496 : decode cX3_mix 496 = .ok (.iload 8, 2) := by decide +kernel
theorem dX3_mix_498 : decode cX3_mix 498 = .ok (.iadd, 1) := by decide +kernel
theorem dX3_mix_499 : decode cX3_mix 499 = .ok (.iastore, 1) := by decide +kernel
theorem dX3_mix_500 : decode cX3_mix 500 = .ok (.return_, 1) := by decide +kernel
abbrev cX3_tell : ByteArray := prog_5_method_4_code
def yX3_tell : MethodName := ⟨RX3, "tell", "()V"⟩
theorem dX3_tell_0 : decode cX3_tell 0 = .ok (.iconst 0, 1) := by decide +kernel
theorem dX3_tell_1 : decode cX3_tell 1 = .ok (.istore_n 1, 1) := by decide +kernel
theorem dX3_tell_2 : decode cX3_tell 2 = .ok (.iload_n 1, 1) := by decide +kernel
theorem dX3_tell_3 : decode cX3_tell 3 = .ok (.bipush 32, 2) := by decide +kernel
theorem dX3_tell_5 : decode cX3_tell 5 = .ok (.if_icmp .ge 34, 3) := by decide +kernel
theorem dX3_tell_8 : decode cX3_tell 8 = .ok (.aload_n 0, 1) := by decide +kernel
theorem dX3_tell_9 : decode cX3_tell 9 = .ok (.getfield 37, 3) := by decide +kernel
theorem dX3_tell_12 : decode cX3_tell 12 = .ok (.iload_n 1, 1) := by decide +kernel
theorem dX3_tell_13 : decode cX3_tell 13 = .ok (.aload_n 0, 1) := by decide +kernel
theorem dX3_tell_14 : decode cX3_tell 14 = .ok (.getfield 7, 3) := by decide +kernel
theorem dX3_tell_17 : decode cX3_tell 17 = .ok (.iload_n 1, 1) := by decide +kernel
theorem dX3_tell_18 : decode cX3_tell 18 = .ok (.iconst 2, 1) := by decide +kernel
theorem dX3_tell_19 : decode cX3_tell 19 = .ok (.ishr, 1) := by decide +kernel
theorem dX3_tell_20 : decode cX3_tell 20 = .ok (.iaload, 1) := by decide +kernel
theorem dX3_tell_21 : decode cX3_tell 21 = .ok (.bipush 24, 2) := by decide +kernel
theorem dX3_tell_23 : decode cX3_tell 23 = .ok (.bipush 8, 2) := by decide +kernel
theorem dX3_tell_25 : decode cX3_tell 25 = .ok (.iload_n 1, 1) := by decide +kernel
theorem dX3_tell_26 : decode cX3_tell 26 = .ok (.iconst 3, 1) := by decide +kernel
theorem dX3_tell_27 : decode cX3_tell 27 = .ok (.iand, 1) := by decide +kernel
theorem dX3_tell_28 : decode cX3_tell 28 = .ok (.imul, 1) := by decide +kernel
theorem dX3_tell_29 : decode cX3_tell 29 = .ok (.isub, 1) := by decide +kernel
theorem dX3_tell_30 : decode cX3_tell 30 = .ok (.ishr, 1) := by decide +kernel
theorem dX3_tell_31 : decode cX3_tell 31 = .ok (.i2b, 1) := by decide +kernel
theorem dX3_tell_32 : decode cX3_tell 32 = .ok (.bastore, 1) := by decide +kernel
theorem dX3_tell_33 : decode cX3_tell 33 = .ok (.iinc 1 1, 3) := by decide +kernel
theorem dX3_tell_36 : decode cX3_tell 36 = .ok (.goto (-34), 3) := by decide +kernel
theorem dX3_tell_39 : decode cX3_tell 39 = .ok (.return_, 1) := by decide +kernel
theorem q100 : (Jvm.Cond.initialized "VeilMint$Digest256") ∈ lw_all := lw_g (lw_at lw_m1 3 rfl) rfl
theorem q134 : (Jvm.Cond.instantiable "VeilMint$Digest256" (6 : Nat)) ∈ lw_all := lw_g (lw_at lw_m1 37 rfl) rfl
theorem q136 : (Jvm.Cond.instanceMethod ({ cls := "VeilMint$Digest256", name := "<init>", desc := "()V" } : Jvm.MethodName)) ∈ lw_all := lw_g (lw_at lw_m1 39 rfl) rfl
theorem q137 : (Jvm.Cond.code ({ cls := "VeilMint$Digest256", name := "<init>", desc := "()V" } : Jvm.MethodName) prog_5_method_1_code (1 : Nat) (Option.none : Option Jvm.ClassFile.FieldType)) ∈ lw_all := lw_g (lw_at lw_m1 40 rfl) rfl
theorem q138 : (Jvm.Cond.methodLink "VeilMint$Digest256" (1 : Nat) ({ cls := "VeilMint$Digest", name := "<init>", desc := "(II)V" } : Jvm.MethodName)) ∈ lw_all := lw_g (lw_at lw_m1 41 rfl) rfl
theorem q142 : (Jvm.Cond.fieldLink "VeilMint$Digest256" (7 : Nat) "VeilMint$Digest256" "h" "[I") ∈ lw_all := lw_g (lw_at lw_m1 45 rfl) rfl
theorem q143 : (Jvm.Cond.fieldLink "VeilMint$Digest256" (13 : Nat) "VeilMint$Digest256" "w" "[I") ∈ lw_all := lw_g (lw_at lw_m1 46 rfl) rfl
theorem q145 : (Jvm.Cond.fieldLink "VeilMint$Digest256" (24 : Nat) "VeilMint$Digest256" "block" "[B") ∈ lw_all := lw_g (lw_at lw_m1 48 rfl) rfl
theorem q146 : (Jvm.Cond.sameField "VeilMint$Digest256" "VeilMint$Digest" "block" "[B") ∈ lw_all := lw_g (lw_at lw_m1 49 rfl) rfl
theorem q150 : (Jvm.Cond.fieldLink "VeilMint$Digest256" (37 : Nat) "VeilMint$Digest256" "out" "[B") ∈ lw_all := lw_g (lw_at lw_m1 53 rfl) rfl
theorem q151 : (Jvm.Cond.sameField "VeilMint$Digest256" "VeilMint$Digest" "out" "[B") ∈ lw_all := lw_g (lw_at lw_m1 54 rfl) rfl
theorem q156 : (Jvm.Cond.laysFinal "VeilMint$Digest256" "VeilMint$Digest256" "h" "[I") ∈ lw_all := lw_g (lw_at lw_m1 59 rfl) rfl
theorem q157 : (Jvm.Cond.soleField "VeilMint$Digest256" "h") ∈ lw_all := lw_g (lw_at lw_m1 60 rfl) rfl
theorem q158 : (Jvm.Cond.laysFinal "VeilMint$Digest256" "VeilMint$Digest256" "w" "[I") ∈ lw_all := lw_g (lw_at lw_m1 61 rfl) rfl
theorem q159 : (Jvm.Cond.soleField "VeilMint$Digest256" "w") ∈ lw_all := lw_g (lw_at lw_m1 62 rfl) rfl
theorem q160 : (Jvm.Cond.laysFinal "VeilMint$Digest256" "VeilMint$Digest" "block" "[B") ∈ lw_all := lw_g (lw_at lw_m1 63 rfl) rfl
theorem q162 : (Jvm.Cond.laysFinal "VeilMint$Digest256" "VeilMint$Digest" "out" "[B") ∈ lw_all := lw_g (lw_at lw_m1 65 rfl) rfl
theorem q164 : (Jvm.Cond.lays "VeilMint$Digest256" "VeilMint$Digest" "many" "J") ∈ lw_all := lw_g (lw_at lw_m1 67 rfl) rfl
theorem q166 : (Jvm.Cond.lays "VeilMint$Digest256" "VeilMint$Digest" "at" "I") ∈ lw_all := lw_g (lw_at lw_m1 69 rfl) rfl
theorem q168 : (Jvm.Cond.superclass "VeilMint$Digest256" "VeilMint$Digest") ∈ lw_all := lw_g (lw_at lw_m1 71 rfl) rfl
theorem q815 : (Jvm.Cond.sameMethod "VeilMint$Digest256" "VeilMint$Digest" "begin" "()LVeilMint$Digest;") ∈ lw_all := lw_g (lw_at lw_m3 238 rfl) rfl
theorem q817 : (Jvm.Cond.selects "VeilMint$Digest256" ({ cls := "VeilMint$Digest256", name := "begin", desc := "()LVeilMint$Digest;" } : Jvm.MethodName) ({ cls := "VeilMint$Digest", name := "begin", desc := "()LVeilMint$Digest;" } : Jvm.MethodName)) ∈ lw_all := lw_g (lw_at lw_m4 0 rfl) rfl
theorem q823 : (Jvm.Cond.selects "VeilMint$Digest256" ({ cls := "VeilMint$Digest", name := "start", desc := "()V" } : Jvm.MethodName) ({ cls := "VeilMint$Digest256", name := "start", desc := "()V" } : Jvm.MethodName)) ∈ lw_all := lw_g (lw_at lw_m4 6 rfl) rfl
theorem q824 : (Jvm.Cond.instanceMethod ({ cls := "VeilMint$Digest256", name := "start", desc := "()V" } : Jvm.MethodName)) ∈ lw_all := lw_g (lw_at lw_m4 7 rfl) rfl
theorem q825 : (Jvm.Cond.code ({ cls := "VeilMint$Digest256", name := "start", desc := "()V" } : Jvm.MethodName) prog_5_method_2_code (1 : Nat) (Option.none : Option Jvm.ClassFile.FieldType)) ∈ lw_all := lw_g (lw_at lw_m4 8 rfl) rfl
theorem q826 : (Jvm.Cond.constant "VeilMint$Digest256" (16 : Nat) (1779033703 : Int32)) ∈ lw_all := lw_g (lw_at lw_m4 9 rfl) rfl
theorem q827 : (Jvm.Cond.constant "VeilMint$Digest256" (17 : Nat) (-1150833019 : Int32)) ∈ lw_all := lw_g (lw_at lw_m4 10 rfl) rfl
theorem q828 : (Jvm.Cond.constant "VeilMint$Digest256" (18 : Nat) (1013904242 : Int32)) ∈ lw_all := lw_g (lw_at lw_m4 11 rfl) rfl
theorem q829 : (Jvm.Cond.constant "VeilMint$Digest256" (19 : Nat) (-1521486534 : Int32)) ∈ lw_all := lw_g (lw_at lw_m4 12 rfl) rfl
theorem q830 : (Jvm.Cond.constant "VeilMint$Digest256" (20 : Nat) (1359893119 : Int32)) ∈ lw_all := lw_g (lw_at lw_m4 13 rfl) rfl
theorem q831 : (Jvm.Cond.constant "VeilMint$Digest256" (21 : Nat) (-1694144372 : Int32)) ∈ lw_all := lw_g (lw_at lw_m4 14 rfl) rfl
theorem q832 : (Jvm.Cond.constant "VeilMint$Digest256" (22 : Nat) (528734635 : Int32)) ∈ lw_all := lw_g (lw_at lw_m4 15 rfl) rfl
theorem q833 : (Jvm.Cond.constant "VeilMint$Digest256" (23 : Nat) (1541459225 : Int32)) ∈ lw_all := lw_g (lw_at lw_m4 16 rfl) rfl
theorem q852 : (Jvm.Cond.selects "VeilMint$Digest256" ({ cls := "VeilMint$Digest", name := "put", desc := "([BII)LVeilMint$Digest;" } : Jvm.MethodName) ({ cls := "VeilMint$Digest", name := "put", desc := "([BII)LVeilMint$Digest;" } : Jvm.MethodName)) ∈ lw_all := lw_g (lw_at lw_m4 35 rfl) rfl
theorem q858 : (Jvm.Cond.selects "VeilMint$Digest256" ({ cls := "VeilMint$Digest", name := "put", desc := "(I)LVeilMint$Digest;" } : Jvm.MethodName) ({ cls := "VeilMint$Digest", name := "put", desc := "(I)LVeilMint$Digest;" } : Jvm.MethodName)) ∈ lw_all := lw_g (lw_at lw_m4 41 rfl) rfl
theorem q864 : (Jvm.Cond.selects "VeilMint$Digest256" ({ cls := "VeilMint$Digest", name := "mix", desc := "()V" } : Jvm.MethodName) ({ cls := "VeilMint$Digest256", name := "mix", desc := "()V" } : Jvm.MethodName)) ∈ lw_all := lw_g (lw_at lw_m4 47 rfl) rfl
theorem q865 : (Jvm.Cond.instanceMethod ({ cls := "VeilMint$Digest256", name := "mix", desc := "()V" } : Jvm.MethodName)) ∈ lw_all := lw_g (lw_at lw_m4 48 rfl) rfl
theorem q866 : (Jvm.Cond.code ({ cls := "VeilMint$Digest256", name := "mix", desc := "()V" } : Jvm.MethodName) prog_5_method_3_code (12 : Nat) (Option.none : Option Jvm.ClassFile.FieldType)) ∈ lw_all := lw_g (lw_at lw_m4 49 rfl) rfl
theorem q867 : (Jvm.Cond.methodLink "VeilMint$Digest256" (28 : Nat) ({ cls := "java/lang/Integer", name := "rotateRight", desc := "(II)I" } : Jvm.MethodName)) ∈ lw_all := lw_g (lw_at lw_m4 50 rfl) rfl
theorem q870 : (Jvm.Cond.fieldLink "VeilMint$Digest256" (34 : Nat) "VeilMint$Digest256" "ROUNDS" "[I") ∈ lw_all := lw_g (lw_at lw_m4 53 rfl) rfl
theorem q871 : (Jvm.Cond.laysStatic "VeilMint$Digest256" "ROUNDS" "[I") ∈ lw_tbl := lw_at lw_m4 54 rfl
theorem q882 : (Jvm.Cond.sameMethod "VeilMint$Digest256" "VeilMint$Digest" "put" "(I)LVeilMint$Digest;") ∈ lw_all := lw_g (lw_at lw_m4 65 rfl) rfl
theorem q884 : (Jvm.Cond.selects "VeilMint$Digest256" ({ cls := "VeilMint$Digest256", name := "put", desc := "(I)LVeilMint$Digest;" } : Jvm.MethodName) ({ cls := "VeilMint$Digest", name := "put", desc := "(I)LVeilMint$Digest;" } : Jvm.MethodName)) ∈ lw_all := lw_g (lw_at lw_m4 67 rfl) rfl
theorem q886 : (Jvm.Cond.sameMethod "VeilMint$Digest256" "VeilMint$Digest" "end" "()[B") ∈ lw_all := lw_g (lw_at lw_m4 69 rfl) rfl
theorem q888 : (Jvm.Cond.selects "VeilMint$Digest256" ({ cls := "VeilMint$Digest256", name := "end", desc := "()[B" } : Jvm.MethodName) ({ cls := "VeilMint$Digest", name := "end", desc := "()[B" } : Jvm.MethodName)) ∈ lw_all := lw_g (lw_at lw_m4 71 rfl) rfl
theorem q895 : (Jvm.Cond.selects "VeilMint$Digest256" ({ cls := "VeilMint$Digest", name := "tell", desc := "()V" } : Jvm.MethodName) ({ cls := "VeilMint$Digest256", name := "tell", desc := "()V" } : Jvm.MethodName)) ∈ lw_all := lw_g (lw_at lw_m4 78 rfl) rfl
theorem q896 : (Jvm.Cond.instanceMethod ({ cls := "VeilMint$Digest256", name := "tell", desc := "()V" } : Jvm.MethodName)) ∈ lw_all := lw_g (lw_at lw_m4 79 rfl) rfl
theorem q897 : (Jvm.Cond.code ({ cls := "VeilMint$Digest256", name := "tell", desc := "()V" } : Jvm.MethodName) prog_5_method_4_code (2 : Nat) (Option.none : Option Jvm.ClassFile.FieldType)) ∈ lw_all := lw_g (lw_at lw_m4 80 rfl) rfl
theorem q2133 : (Jvm.Cond.selects "VeilMint$Digest256" ({ cls := "VeilMint$Digest", name := "end", desc := "()[B" } : Jvm.MethodName) ({ cls := "VeilMint$Digest", name := "end", desc := "()[B" } : Jvm.MethodName)) ∈ lw_all := lw_g (lw_at lw_m9 116 rfl) rfl
theorem q2136 : (Jvm.Cond.selects "VeilMint$Digest256" ({ cls := "VeilMint$Digest", name := "word", desc := "(Ljava/lang/String;)LVeilMint$Digest;" } : Jvm.MethodName) ({ cls := "VeilMint$Digest", name := "word", desc := "(Ljava/lang/String;)LVeilMint$Digest;" } : Jvm.MethodName)) ∈ lw_all := lw_g (lw_at lw_m9 119 rfl) rfl
theorem q2139 : (Jvm.Cond.selects "VeilMint$Digest256" ({ cls := "VeilMint$Digest", name := "two", desc := "(I)LVeilMint$Digest;" } : Jvm.MethodName) ({ cls := "VeilMint$Digest", name := "two", desc := "(I)LVeilMint$Digest;" } : Jvm.MethodName)) ∈ lw_all := lw_g (lw_at lw_m9 122 rfl) rfl
theorem q2143 : (Jvm.Cond.castable "VeilMint$Digest256" "java/lang/Object") ∈ lw_tbl := lw_at lw_m9 126 rfl
theorem in_X3 : ∀ w ∈ wsX30, w ∈ lw_all := lw_in wsX30 [160, 162, 164, 166, 156, 158] (by decide +kernel) (by decide +kernel)
/-! VeilMint$Digest384 -/
set_option maxRecDepth 100000
def RX4 : String := "VeilMint$Digest384"
def TX4 : u_T := fun k => match k with
  | 0 => ("VeilMint$Digest", "block", "[B", true)
  | 1 => ("VeilMint$Digest", "out", "[B", true)
  | 2 => ("VeilMint$Digest", "many", "J", false)
  | 3 => ("VeilMint$Digest", "at", "I", false)
  | 4 => ("VeilMint$Digest384", "h", "[J", true)
  | _ => ("VeilMint$Digest384", "w", "[J", true)
def tyX4 : Nat → FieldType := fun k => match k with
  | 0 => .array .byte
  | 1 => .array .byte
  | 2 => .long
  | 3 => .int
  | 4 => .array .long
  | _ => .array .long
abbrev wsX40 : List Cond := u_ws RX4 TX4 6
theorem nmX4 : ∀ a, a < 6 → ∀ b, b < 6 → a ≠ b → (TX4 a).2.1 ≠ (TX4 b).2.1 := by decide +kernel
theorem tyX4_ok : ∀ k, k < 6 → parseFieldDescriptor (TX4 k).2.2.1 = some (tyX4 k) := by decide +kernel
abbrev cX4_init : ByteArray := prog_6_method_1_code
def yX4_init : MethodName := ⟨RX4, "<init>", "()V"⟩
theorem dX4_init_0 : decode cX4_init 0 = .ok (.aload_n 0, 1) := by decide +kernel
theorem dX4_init_1 : decode cX4_init 1 = .ok (.sipush 128, 3) := by decide +kernel
theorem dX4_init_4 : decode cX4_init 4 = .ok (.bipush 48, 2) := by decide +kernel
theorem dX4_init_6 : decode cX4_init 6 = .ok (.invokespecial 1, 3) := by decide +kernel
theorem dX4_init_9 : decode cX4_init 9 = .ok (.aload_n 0, 1) := by decide +kernel
theorem dX4_init_10 : decode cX4_init 10 = .ok (.bipush 8, 2) := by decide +kernel
theorem dX4_init_12 : decode cX4_init 12 = .ok (.newarray .long, 2) := by decide +kernel
theorem dX4_init_14 : decode cX4_init 14 = .ok (.putfield 7, 3) := by decide +kernel
theorem dX4_init_17 : decode cX4_init 17 = .ok (.aload_n 0, 1) := by decide +kernel
theorem dX4_init_18 : decode cX4_init 18 = .ok (.bipush 80, 2) := by decide +kernel
theorem dX4_init_20 : decode cX4_init 20 = .ok (.newarray .long, 2) := by decide +kernel
theorem dX4_init_22 : decode cX4_init 22 = .ok (.putfield 13, 3) := by decide +kernel
theorem dX4_init_25 : decode cX4_init 25 = .ok (.return_, 1) := by decide +kernel
abbrev cX4_start : ByteArray := prog_6_method_2_code
def yX4_start : MethodName := ⟨RX4, "start", "()V"⟩
theorem dX4_start_0 : decode cX4_start 0 = .ok (.getstatic 16, 3) := by decide +kernel
theorem dX4_start_3 : decode cX4_start 3 = .ok (.iconst 0, 1) := by decide +kernel
theorem dX4_start_4 : decode cX4_start 4 = .ok (.aload_n 0, 1) := by decide +kernel
theorem dX4_start_5 : decode cX4_start 5 = .ok (.getfield 7, 3) := by decide +kernel
theorem dX4_start_8 : decode cX4_start 8 = .ok (.iconst 0, 1) := by decide +kernel
theorem dX4_start_9 : decode cX4_start 9 = .ok (.bipush 8, 2) := by decide +kernel
theorem dX4_start_11 : decode cX4_start 11 = .ok (.invokestatic 19, 3) := by decide +kernel
theorem dX4_start_14 : decode cX4_start 14 = .ok (.return_, 1) := by decide +kernel
abbrev cX4_mix : ByteArray := prog_6_method_3_code
def yX4_mix : MethodName := ⟨RX4, "mix", "()V"⟩
theorem dX4_mix_0 : decode cX4_mix 0 = .ok (.iconst 0, 1) := by decide +kernel
theorem dX4_mix_1 : decode cX4_mix 1 = .ok (.istore_n 1, 1) := by decide +kernel
theorem dX4_mix_2 : decode cX4_mix 2 = .ok (.iload_n 1, 1) := by decide +kernel
theorem dX4_mix_3 : decode cX4_mix 3 = .ok (.bipush 16, 2) := by decide +kernel
theorem dX4_mix_5 : decode cX4_mix 5 = .ok (.if_icmp .ge 57, 3) := by decide +kernel
theorem dX4_mix_8 : decode cX4_mix 8 = .ok (.lconst 0, 1) := by decide +kernel
theorem dX4_mix_9 : decode cX4_mix 9 = .ok (.lstore_n 2, 1) := by decide +kernel
theorem dX4_mix_10 : decode cX4_mix 10 = .ok (.iconst 0, 1) := by decide +kernel
theorem dX4_mix_11 : decode cX4_mix 11 = .ok (.istore 4, 2) := by decide +kernel
theorem dX4_mix_13 : decode cX4_mix 13 = .ok (.iload 4, 2) := by decide +kernel
theorem dX4_mix_15 : decode cX4_mix 15 = .ok (.bipush 8, 2) := by decide +kernel
theorem dX4_mix_17 : decode cX4_mix 17 = .ok (.if_icmp .ge 32, 3) := by decide +kernel
theorem dX4_mix_20 : decode cX4_mix 20 = .ok (.lload_n 2, 1) := by decide +kernel
theorem dX4_mix_21 : decode cX4_mix 21 = .ok (.bipush 8, 2) := by decide +kernel
theorem dX4_mix_23 : decode cX4_mix 23 = .ok (.lshl, 1) := by decide +kernel
theorem dX4_mix_24 : decode cX4_mix 24 = .ok (.aload_n 0, 1) := by decide +kernel
theorem dX4_mix_25 : decode cX4_mix 25 = .ok (.getfield 25, 3) := by decide +kernel
theorem dX4_mix_28 : decode cX4_mix 28 = .ok (.bipush 8, 2) := by decide +kernel
theorem dX4_mix_30 : decode cX4_mix 30 = .ok (.iload_n 1, 1) := by decide +kernel
theorem dX4_mix_31 : decode cX4_mix 31 = .ok (.imul, 1) := by decide +kernel
theorem dX4_mix_32 : decode cX4_mix 32 = .ok (.iload 4, 2) := by decide +kernel
theorem dX4_mix_34 : decode cX4_mix 34 = .ok (.iadd, 1) := by decide +kernel
theorem dX4_mix_35 : decode cX4_mix 35 = .ok (.baload, 1) := by decide +kernel
theorem dX4_mix_36 : decode cX4_mix 36 = .ok (.sipush 255, 3) := by decide +kernel
theorem dX4_mix_39 : decode cX4_mix 39 = .ok (.iand, 1) := by decide +kernel
theorem dX4_mix_40 : decode cX4_mix 40 = .ok (.i2l, 1) := by decide +kernel
theorem dX4_mix_41 : decode cX4_mix 41 = .ok (.lor, 1) := by decide +kernel
theorem dX4_mix_42 : decode cX4_mix 42 = .ok (.lstore_n 2, 1) := by decide +kernel
theorem dX4_mix_43 : decode cX4_mix 43 = .ok (.iinc 4 1, 3) := by decide +kernel
theorem dX4_mix_46 : decode cX4_mix 46 = .ok (.goto (-33), 3) := by decide +kernel
theorem dX4_mix_49 : decode cX4_mix 49 = .ok (.aload_n 0, 1) := by decide +kernel
theorem dX4_mix_50 : decode cX4_mix 50 = .ok (.getfield 13, 3) := by decide +kernel
theorem dX4_mix_53 : decode cX4_mix 53 = .ok (.iload_n 1, 1) := by decide +kernel
theorem dX4_mix_54 : decode cX4_mix 54 = .ok (.lload_n 2, 1) := by decide +kernel
theorem dX4_mix_55 : decode cX4_mix 55 = .ok (.lastore, 1) := by decide +kernel
theorem dX4_mix_56 : decode cX4_mix 56 = .ok (.iinc 1 1, 3) := by decide +kernel
theorem dX4_mix_59 : decode cX4_mix 59 = .ok (.goto (-57), 3) := by decide +kernel
theorem dX4_mix_62 : decode cX4_mix 62 = .ok (.bipush 16, 2) := by decide +kernel
theorem dX4_mix_64 : decode cX4_mix 64 = .ok (.istore_n 1, 1) := by decide +kernel
theorem dX4_mix_65 : decode cX4_mix 65 = .ok (.iload_n 1, 1) := by decide +kernel
theorem dX4_mix_66 : decode cX4_mix 66 = .ok (.bipush 80, 2) := by decide +kernel
theorem dX4_mix_68 : decode cX4_mix 68 = .ok (.if_icmp .ge 122, 3) := by decide +kernel
theorem dX4_mix_71 : decode cX4_mix 71 = .ok (.aload_n 0, 1) := by decide +kernel
theorem dX4_mix_72 : decode cX4_mix 72 = .ok (.getfield 13, 3) := by decide +kernel
theorem dX4_mix_75 : decode cX4_mix 75 = .ok (.iload_n 1, 1) := by decide +kernel
theorem dX4_mix_76 : decode cX4_mix 76 = .ok (.bipush 15, 2) := by decide +kernel
theorem dX4_mix_78 : decode cX4_mix 78 = .ok (.isub, 1) := by decide +kernel
theorem dX4_mix_79 : decode cX4_mix 79 = .ok (.laload, 1) := by decide +kernel
theorem dX4_mix_80 : decode cX4_mix 80 = .ok (.iconst 1, 1) := by decide +kernel
theorem dX4_mix_81 : decode cX4_mix 81 = .ok (.invokestatic 29, 3) := by decide +kernel
theorem dX4_mix_84 : decode cX4_mix 84 = .ok (.aload_n 0, 1) := by decide +kernel
theorem dX4_mix_85 : decode cX4_mix 85 = .ok (.getfield 13, 3) := by decide +kernel
theorem dX4_mix_88 : decode cX4_mix 88 = .ok (.iload_n 1, 1) := by decide +kernel
theorem dX4_mix_89 : decode cX4_mix 89 = .ok (.bipush 15, 2) := by decide +kernel
theorem dX4_mix_91 : decode cX4_mix 91 = .ok (.isub, 1) := by decide +kernel
theorem dX4_mix_92 : decode cX4_mix 92 = .ok (.laload, 1) := by decide +kernel
theorem dX4_mix_93 : decode cX4_mix 93 = .ok (.bipush 8, 2) := by decide +kernel
theorem dX4_mix_95 : decode cX4_mix 95 = .ok (.invokestatic 29, 3) := by decide +kernel
theorem dX4_mix_98 : decode cX4_mix 98 = .ok (.lxor, 1) := by decide +kernel
theorem dX4_mix_99 : decode cX4_mix 99 = .ok (.aload_n 0, 1) := by decide +kernel
theorem dX4_mix_100 : decode cX4_mix 100 = .ok (.getfield 13, 3) := by decide +kernel
theorem dX4_mix_103 : decode cX4_mix 103 = .ok (.iload_n 1, 1) := by decide +kernel
theorem dX4_mix_104 : decode cX4_mix 104 = .ok (.bipush 15, 2) := by decide +kernel
theorem dX4_mix_106 : decode cX4_mix 106 = .ok (.isub, 1) := by decide +kernel
theorem dX4_mix_107 : decode cX4_mix 107 = .ok (.laload, 1) := by decide +kernel
theorem dX4_mix_108 : decode cX4_mix 108 = .ok (.bipush 7, 2) := by decide +kernel
theorem dX4_mix_110 : decode cX4_mix 110 = .ok (.lushr, 1) := by decide +kernel
theorem dX4_mix_111 : decode cX4_mix 111 = .ok (.lxor, 1) := by decide +kernel
theorem dX4_mix_112 : decode cX4_mix 112 = .ok (.lstore_n 2, 1) := by decide +kernel
theorem dX4_mix_113 : decode cX4_mix 113 = .ok (.aload_n 0, 1) := by decide +kernel
theorem dX4_mix_114 : decode cX4_mix 114 = .ok (.getfield 13, 3) := by decide +kernel
theorem dX4_mix_117 : decode cX4_mix 117 = .ok (.iload_n 1, 1) := by decide +kernel
theorem dX4_mix_118 : decode cX4_mix 118 = .ok (.iconst 2, 1) := by decide +kernel
theorem dX4_mix_119 : decode cX4_mix 119 = .ok (.isub, 1) := by decide +kernel
theorem dX4_mix_120 : decode cX4_mix 120 = .ok (.laload, 1) := by decide +kernel
theorem dX4_mix_121 : decode cX4_mix 121 = .ok (.bipush 19, 2) := by decide +kernel
theorem dX4_mix_123 : decode cX4_mix 123 = .ok (.invokestatic 29, 3) := by decide +kernel
theorem dX4_mix_126 : decode cX4_mix 126 = .ok (.aload_n 0, 1) := by decide +kernel
theorem dX4_mix_127 : decode cX4_mix 127 = .ok (.getfield 13, 3) := by decide +kernel
theorem dX4_mix_130 : decode cX4_mix 130 = .ok (.iload_n 1, 1) := by decide +kernel
theorem dX4_mix_131 : decode cX4_mix 131 = .ok (.iconst 2, 1) := by decide +kernel
theorem dX4_mix_132 : decode cX4_mix 132 = .ok (.isub, 1) := by decide +kernel
theorem dX4_mix_133 : decode cX4_mix 133 = .ok (.laload, 1) := by decide +kernel
theorem dX4_mix_134 : decode cX4_mix 134 = .ok (.bipush 61, 2) := by decide +kernel
theorem dX4_mix_136 : decode cX4_mix 136 = .ok (.invokestatic 29, 3) := by decide +kernel
theorem dX4_mix_139 : decode cX4_mix 139 = .ok (.lxor, 1) := by decide +kernel
theorem dX4_mix_140 : decode cX4_mix 140 = .ok (.aload_n 0, 1) := by decide +kernel
theorem dX4_mix_141 : decode cX4_mix 141 = .ok (.getfield 13, 3) := by decide +kernel
theorem dX4_mix_144 : decode cX4_mix 144 = .ok (.iload_n 1, 1) := by decide +kernel
theorem dX4_mix_145 : decode cX4_mix 145 = .ok (.iconst 2, 1) := by decide +kernel
theorem dX4_mix_146 : decode cX4_mix 146 = .ok (.isub, 1) := by decide +kernel
theorem dX4_mix_147 : decode cX4_mix 147 = .ok (.laload, 1) := by decide +kernel
theorem dX4_mix_148 : decode cX4_mix 148 = .ok (.bipush 6, 2) := by decide +kernel
theorem dX4_mix_150 : decode cX4_mix 150 = .ok (.lushr, 1) := by decide +kernel
theorem dX4_mix_151 : decode cX4_mix 151 = .ok (.lxor, 1) := by decide +kernel
theorem dX4_mix_152 : decode cX4_mix 152 = .ok (.lstore 4, 2) := by decide +kernel
theorem dX4_mix_154 : decode cX4_mix 154 = .ok (.aload_n 0, 1) := by decide +kernel
theorem dX4_mix_155 : decode cX4_mix 155 = .ok (.getfield 13, 3) := by decide +kernel
theorem dX4_mix_158 : decode cX4_mix 158 = .ok (.iload_n 1, 1) := by decide +kernel
theorem dX4_mix_159 : decode cX4_mix 159 = .ok (.aload_n 0, 1) := by decide +kernel
theorem dX4_mix_160 : decode cX4_mix 160 = .ok (.getfield 13, 3) := by decide +kernel
theorem dX4_mix_163 : decode cX4_mix 163 = .ok (.iload_n 1, 1) := by decide +kernel
theorem dX4_mix_164 : decode cX4_mix 164 = .ok (.bipush 16, 2) := by decide +kernel
theorem dX4_mix_166 : decode cX4_mix 166 = .ok (.isub, 1) := by decide +kernel
theorem dX4_mix_167 : decode cX4_mix 167 = .ok (.laload, 1) := by decide +kernel
theorem dX4_mix_168 : decode cX4_mix 168 = .ok (.lload_n 2, 1) := by decide +kernel
theorem dX4_mix_169 : decode cX4_mix 169 = .ok (.ladd, 1) := by decide +kernel
theorem dX4_mix_170 : decode cX4_mix 170 = .ok (.aload_n 0, 1) := by decide +kernel
theorem dX4_mix_171 : decode cX4_mix 171 = .ok (.getfield 13, 3) := by decide +kernel
theorem dX4_mix_174 : decode cX4_mix 174 = .ok (.iload_n 1, 1) := by decide +kernel
theorem dX4_mix_175 : decode cX4_mix 175 = .ok (.bipush 7, 2) := by decide +kernel
theorem dX4_mix_177 : decode cX4_mix 177 = .ok (.isub, 1) := by decide +kernel
theorem dX4_mix_178 : decode cX4_mix 178 = .ok (.laload, 1) := by decide +kernel
theorem dX4_mix_179 : decode cX4_mix 179 = .ok (.ladd, 1) := by decide +kernel
theorem dX4_mix_180 : decode cX4_mix 180 = .ok (.lload 4, 2) := by decide +kernel
theorem dX4_mix_182 : decode cX4_mix 182 = .ok (.ladd, 1) := by decide +kernel
theorem dX4_mix_183 : decode cX4_mix 183 = .ok (.lastore, 1) := by decide +kernel
theorem dX4_mix_184 : decode cX4_mix 184 = .ok (.iinc 1 1, 3) := by decide +kernel
theorem dX4_mix_187 : decode cX4_mix 187 = .ok (.goto (-122), 3) := by decide +kernel
theorem dX4_mix_190 : decode cX4_mix 190 = .ok (.aload_n 0, 1) := by decide +kernel
theorem dX4_mix_191 : decode cX4_mix 191 = .ok (.getfield 7, 3) := by decide +kernel
theorem dX4_mix_194 : decode cX4_mix 194 = .ok (.iconst 0, 1) := by decide +kernel
theorem dX4_mix_195 : decode cX4_mix 195 = .ok (.laload, 1) := by decide +kernel
theorem dX4_mix_196 : decode cX4_mix 196 = .ok (.lstore_n 1, 1) := by decide +kernel
theorem dX4_mix_197 : decode cX4_mix 197 = .ok (.aload_n 0, 1) := by decide +kernel
theorem dX4_mix_198 : decode cX4_mix 198 = .ok (.getfield 7, 3) := by decide +kernel
theorem dX4_mix_201 : decode cX4_mix 201 = .ok (.iconst 1, 1) := by decide +kernel
theorem dX4_mix_202 : decode cX4_mix 202 = .ok (.laload, 1) := by decide +kernel
theorem dX4_mix_203 : decode cX4_mix 203 = .ok (.lstore_n 3, 1) := by decide +kernel
theorem dX4_mix_204 : decode cX4_mix 204 = .ok (.aload_n 0, 1) := by decide +kernel
theorem dX4_mix_205 : decode cX4_mix 205 = .ok (.getfield 7, 3) := by decide +kernel
theorem dX4_mix_208 : decode cX4_mix 208 = .ok (.iconst 2, 1) := by decide +kernel
theorem dX4_mix_209 : decode cX4_mix 209 = .ok (.laload, 1) := by decide +kernel
theorem dX4_mix_210 : decode cX4_mix 210 = .ok (.lstore 5, 2) := by decide +kernel
theorem dX4_mix_212 : decode cX4_mix 212 = .ok (.aload_n 0, 1) := by decide +kernel
theorem dX4_mix_213 : decode cX4_mix 213 = .ok (.getfield 7, 3) := by decide +kernel
theorem dX4_mix_216 : decode cX4_mix 216 = .ok (.iconst 3, 1) := by decide +kernel
theorem dX4_mix_217 : decode cX4_mix 217 = .ok (.laload, 1) := by decide +kernel
theorem dX4_mix_218 : decode cX4_mix 218 = .ok (.lstore 7, 2) := by decide +kernel
theorem dX4_mix_220 : decode cX4_mix 220 = .ok (.aload_n 0, 1) := by decide +kernel
theorem dX4_mix_221 : decode cX4_mix 221 = .ok (.getfield 7, 3) := by decide +kernel
theorem dX4_mix_224 : decode cX4_mix 224 = .ok (.iconst 4, 1) := by decide +kernel
theorem dX4_mix_225 : decode cX4_mix 225 = .ok (.laload, 1) := by decide +kernel
theorem dX4_mix_226 : decode cX4_mix 226 = .ok (.lstore 9, 2) := by decide +kernel
theorem dX4_mix_228 : decode cX4_mix 228 = .ok (.aload_n 0, 1) := by decide +kernel
theorem dX4_mix_229 : decode cX4_mix 229 = .ok (.getfield 7, 3) := by decide +kernel
theorem dX4_mix_232 : decode cX4_mix 232 = .ok (.iconst 5, 1) := by decide +kernel
theorem dX4_mix_233 : decode cX4_mix 233 = .ok (.laload, 1) := by decide +kernel
theorem dX4_mix_234 : decode cX4_mix 234 = .ok (.lstore 11, 2) := by decide +kernel
theorem dX4_mix_236 : decode cX4_mix 236 = .ok (.aload_n 0, 1) := by decide +kernel
theorem dX4_mix_237 : decode cX4_mix 237 = .ok (.getfield 7, 3) := by decide +kernel
theorem dX4_mix_240 : decode cX4_mix 240 = .ok (.bipush 6, 2) := by decide +kernel
theorem dX4_mix_242 : decode cX4_mix 242 = .ok (.laload, 1) := by decide +kernel
theorem dX4_mix_243 : decode cX4_mix 243 = .ok (.lstore 13, 2) := by decide +kernel
theorem dX4_mix_245 : decode cX4_mix 245 = .ok (.aload_n 0, 1) := by decide +kernel
theorem dX4_mix_246 : decode cX4_mix 246 = .ok (.getfield 7, 3) := by decide +kernel
theorem dX4_mix_249 : decode cX4_mix 249 = .ok (.bipush 7, 2) := by decide +kernel
theorem dX4_mix_251 : decode cX4_mix 251 = .ok (.laload, 1) := by decide +kernel
theorem dX4_mix_252 : decode cX4_mix 252 = .ok (.lstore 15, 2) := by decide +kernel
theorem dX4_mix_254 : decode cX4_mix 254 = .ok (.iconst 0, 1) := by decide +kernel
theorem dX4_mix_255 : decode cX4_mix 255 = .ok (.istore 17, 2) := by decide +kernel
theorem dX4_mix_257 : decode cX4_mix 257 = .ok (.iload 17, 2) := by decide +kernel
theorem dX4_mix_259 : decode cX4_mix 259 = .ok (.bipush 80, 2) := by decide +kernel
theorem dX4_mix_261 : decode cX4_mix 261 = .ok (.if_icmp .ge 138, 3) := by decide +kernel
theorem dX4_mix_264 : decode cX4_mix 264 = .ok (.lload 15, 2) := by decide +kernel
theorem dX4_mix_266 : decode cX4_mix 266 = .ok (.lload 9, 2) := by decide +kernel
theorem dX4_mix_268 : decode cX4_mix 268 = .ok (.bipush 14, 2) := by decide +kernel
theorem dX4_mix_270 : decode cX4_mix 270 = .ok (.invokestatic 29, 3) := by decide +kernel
theorem dX4_mix_273 : decode cX4_mix 273 = .ok (.lload 9, 2) := by decide +kernel
theorem dX4_mix_275 : decode cX4_mix 275 = .ok (.bipush 18, 2) := by decide +kernel
theorem dX4_mix_277 : decode cX4_mix 277 = .ok (.invokestatic 29, 3) := by decide +kernel
theorem dX4_mix_280 : decode cX4_mix 280 = .ok (.lxor, 1) := by decide +kernel
theorem dX4_mix_281 : decode cX4_mix 281 = .ok (.lload 9, 2) := by decide +kernel
theorem dX4_mix_283 : decode cX4_mix 283 = .ok (.bipush 41, 2) := by decide +kernel
theorem dX4_mix_285 : decode cX4_mix 285 = .ok (.invokestatic 29, 3) := by decide +kernel
theorem dX4_mix_288 : decode cX4_mix 288 = .ok (.lxor, 1) := by decide +kernel
theorem dX4_mix_289 : decode cX4_mix 289 = .ok (.ladd, 1) := by decide +kernel
theorem dX4_mix_290 : decode cX4_mix 290 = .ok (.lload 9, 2) := by decide +kernel
theorem dX4_mix_292 : decode cX4_mix 292 = .ok (.lload 11, 2) := by decide +kernel
theorem dX4_mix_294 : decode cX4_mix 294 = .ok (.land, 1) := by decide +kernel
theorem dX4_mix_295 : decode cX4_mix 295 = .ok (.lload 9, 2) := by decide +kernel
theorem dX4_mix_297 : decode cX4_mix 297 = .ok (.ldc2_w 35, 3) := by decide +kernel
theorem dX4_mix_300 : decode cX4_mix 300 = .ok (.lxor, 1) := by decide +kernel
theorem dX4_mix_301 : decode cX4_mix 301 = .ok (.lload 13, 2) := by decide +kernel
theorem dX4_mix_303 : decode cX4_mix 303 = .ok (.land, 1) := by decide +kernel
theorem dX4_mix_304 : decode cX4_mix 304 = .ok (.lxor, 1) := by decide +kernel
theorem dX4_mix_305 : decode cX4_mix 305 = .ok (.ladd, 1) := by decide +kernel
theorem dX4_mix_306 : decode cX4_mix 306 = .ok (.getstatic 37, 3) := by decide +kernel
theorem dX4_mix_309 : decode cX4_mix 309 = .ok (.iload 17, 2) := by decide +kernel
theorem dX4_mix_311 : decode cX4_mix 311 = .ok (.laload, 1) := by decide +kernel
theorem dX4_mix_312 : decode cX4_mix 312 = .ok (.ladd, 1) := by decide +kernel
theorem dX4_mix_313 : decode cX4_mix 313 = .ok (.aload_n 0, 1) := by decide +kernel
theorem dX4_mix_314 : decode cX4_mix 314 = .ok (.getfield 13, 3) := by decide +kernel
theorem dX4_mix_317 : decode cX4_mix 317 = .ok (.iload 17, 2) := by decide +kernel
theorem dX4_mix_319 : decode cX4_mix 319 = .ok (.laload, 1) := by decide +kernel
theorem dX4_mix_320 : decode cX4_mix 320 = .ok (.ladd, 1) := by decide +kernel
theorem dX4_mix_321 : decode cX4_mix 321 = .ok (.lstore 18, 2) := by decide +kernel
theorem dX4_mix_323 : decode cX4_mix 323 = .ok (.lload_n 1, 1) := by decide +kernel
theorem dX4_mix_324 : decode cX4_mix 324 = .ok (.bipush 28, 2) := by decide +kernel
theorem dX4_mix_326 : decode cX4_mix 326 = .ok (.invokestatic 29, 3) := by decide +kernel
theorem dX4_mix_329 : decode cX4_mix 329 = .ok (.lload_n 1, 1) := by decide +kernel
theorem dX4_mix_330 : decode cX4_mix 330 = .ok (.bipush 34, 2) := by decide +kernel
theorem dX4_mix_332 : decode cX4_mix 332 = .ok (.invokestatic 29, 3) := by decide +kernel
theorem dX4_mix_335 : decode cX4_mix 335 = .ok (.lxor, 1) := by decide +kernel
theorem dX4_mix_336 : decode cX4_mix 336 = .ok (.lload_n 1, 1) := by decide +kernel
theorem dX4_mix_337 : decode cX4_mix 337 = .ok (.bipush 39, 2) := by decide +kernel
theorem dX4_mix_339 : decode cX4_mix 339 = .ok (.invokestatic 29, 3) := by decide +kernel
theorem dX4_mix_342 : decode cX4_mix 342 = .ok (.lxor, 1) := by decide +kernel
theorem dX4_mix_343 : decode cX4_mix 343 = .ok (.lload_n 1, 1) := by decide +kernel
theorem dX4_mix_344 : decode cX4_mix 344 = .ok (.lload_n 3, 1) := by decide +kernel
theorem dX4_mix_345 : decode cX4_mix 345 = .ok (.land, 1) := by decide +kernel
theorem dX4_mix_346 : decode cX4_mix 346 = .ok (.lload_n 1, 1) := by decide +kernel
theorem dX4_mix_347 : decode cX4_mix 347 = .ok (.lload 5, 2) := by decide +kernel
theorem dX4_mix_349 : decode cX4_mix 349 = .ok (.land, 1) := by decide +kernel
theorem dX4_mix_350 : decode cX4_mix 350 = .ok (.lxor, 1) := by decide +kernel
theorem dX4_mix_351 : decode cX4_mix 351 = .ok (.lload_n 3, 1) := by decide +kernel
theorem dX4_mix_352 : decode cX4_mix 352 = .ok (.lload 5, 2) := by decide +kernel
theorem dX4_mix_354 : decode cX4_mix 354 = .ok (.land, 1) := by decide +kernel
theorem dX4_mix_355 : decode cX4_mix 355 = .ok (.lxor, 1) := by decide +kernel
theorem dX4_mix_356 : decode cX4_mix 356 = .ok (.ladd, 1) := by decide +kernel
theorem dX4_mix_357 : decode cX4_mix 357 = .ok (.lstore 20, 2) := by decide +kernel
theorem dX4_mix_359 : decode cX4_mix 359 = .ok (.lload 13, 2) := by decide +kernel
theorem dX4_mix_361 : decode cX4_mix 361 = .ok (.lstore 15, 2) := by decide +kernel
theorem dX4_mix_363 : decode cX4_mix 363 = .ok (.lload 11, 2) := by decide +kernel
theorem dX4_mix_365 : decode cX4_mix 365 = .ok (.lstore 13, 2) := by decide +kernel
theorem dX4_mix_367 : decode cX4_mix 367 = .ok (.lload 9, 2) := by decide +kernel
theorem dX4_mix_369 : decode cX4_mix 369 = .ok (.lstore 11, 2) := by decide +kernel
theorem dX4_mix_371 : decode cX4_mix 371 = .ok (.lload 7, 2) := by decide +kernel
theorem dX4_mix_373 : decode cX4_mix 373 = .ok (.lload 18, 2) := by decide +kernel
theorem dX4_mix_375 : decode cX4_mix 375 = .ok (.ladd, 1) := by decide +kernel
theorem dX4_mix_376 : decode cX4_mix 376 = .ok (.lstore 9, 2) := by decide +kernel
theorem dX4_mix_378 : decode cX4_mix 378 = .ok (.lload 5, 2) := by decide +kernel
theorem dX4_mix_380 : decode cX4_mix 380 = .ok (.lstore 7, 2) := by decide +kernel
theorem dX4_mix_382 : decode cX4_mix 382 = .ok (.lload_n 3, 1) := by decide +kernel
theorem dX4_mix_383 : decode cX4_mix 383 = .ok (.lstore 5, 2) := by decide +kernel
theorem dX4_mix_385 : decode cX4_mix 385 = .ok (.lload_n 1, 1) := by decide +kernel
theorem dX4_mix_386 : decode cX4_mix 386 = .ok (.lstore_n 3, 1) := by decide +kernel
theorem dX4_mix_387 : decode cX4_mix 387 = .ok (.lload 18, 2) := by decide +kernel
theorem dX4_mix_389 : decode cX4_mix 389 = .ok (.lload 20, 2) := by decide +kernel
theorem dX4_mix_391 : decode cX4_mix 391 = .ok (.ladd, 1) := by decide +kernel
theorem dX4_mix_392 : decode cX4_mix 392 = .ok (.lstore_n 1, 1) := by decide +kernel
theorem dX4_mix_393 : decode cX4_mix 393 = .ok (.iinc 17 1, 3) := by decide +kernel
theorem dX4_mix_396 : decode cX4_mix 396 = .ok (.goto (-139), 3) := by decide +kernel
theorem dX4_mix_399 : decode cX4_mix 399 = .ok (.aload_n 0, 1) := by decide +kernel
theorem dX4_mix_400 : decode cX4_mix 400 = .ok (.getfield 7, 3) := by decide +kernel
theorem dX4_mix_403 : decode cX4_mix 403 = .ok (.iconst 0, 1) := by decide +kernel
theorem dX4_mix_404 : decode cX4_mix 404 = .ok (.dup2, 1) := by decide +kernel
theorem dX4_mix_405 : decode cX4_mix 405 = .ok (.laload, 1) := by decide +kernel
theorem dX4_mix_406 : decode cX4_mix 406 = .ok (.lload_n 1, 1) := by decide +kernel
theorem dX4_mix_407 : decode cX4_mix 407 = .ok (.ladd, 1) := by decide +kernel
theorem dX4_mix_408 : decode cX4_mix 408 = .ok (.lastore, 1) := by decide +kernel
theorem dX4_mix_409 : decode cX4_mix 409 = .ok (.aload_n 0, 1) := by decide +kernel
theorem dX4_mix_410 : decode cX4_mix 410 = .ok (.getfield 7, 3) := by decide +kernel
theorem dX4_mix_413 : decode cX4_mix 413 = .ok (.iconst 1, 1) := by decide +kernel
theorem dX4_mix_414 : decode cX4_mix 414 = .ok (.dup2, 1) := by decide +kernel
theorem dX4_mix_415 : decode cX4_mix 415 = .ok (.laload, 1) := by decide +kernel
theorem dX4_mix_416 : decode cX4_mix 416 = .ok (.lload_n 3, 1) := by decide +kernel
theorem dX4_mix_417 : decode cX4_mix 417 = .ok (.ladd, 1) := by decide +kernel
theorem dX4_mix_418 : decode cX4_mix 418 = .ok (.lastore, 1) := by decide +kernel
theorem dX4_mix_419 : decode cX4_mix 419 = .ok (.aload_n 0, 1) := by decide +kernel
theorem dX4_mix_420 : decode cX4_mix 420 = .ok (.getfield 7, 3) := by decide +kernel
theorem dX4_mix_423 : decode cX4_mix 423 = .ok (.iconst 2, 1) := by decide +kernel
theorem dX4_mix_424 : decode cX4_mix 424 = .ok (.dup2, 1) := by decide +kernel
theorem dX4_mix_425 : decode cX4_mix 425 = .ok (.laload, 1) := by decide +kernel
theorem dX4_mix_426 : decode cX4_mix 426 = .ok (.lload 5, 2) := by decide +kernel
theorem dX4_mix_428 : decode cX4_mix 428 = .ok (.ladd, 1) := by decide +kernel
theorem dX4_mix_429 : decode cX4_mix 429 = .ok (.lastore, 1) := by decide +kernel
theorem dX4_mix_430 : decode cX4_mix 430 = .ok (.aload_n 0, 1) := by decide +kernel
theorem dX4_mix_431 : decode cX4_mix 431 = .ok (.getfield 7, 3) := by decide +kernel
theorem dX4_mix_434 : decode cX4_mix 434 = .ok (.iconst 3, 1) := by decide +kernel
theorem dX4_mix_435 : decode cX4_mix 435 = .ok (.dup2, 1) := by decide +kernel
theorem dX4_mix_436 : decode cX4_mix 436 = .ok (.laload, 1) := by decide +kernel
theorem dX4_mix_437 : decode cX4_mix 437 = .ok (.lload 7, 2) := by decide +kernel
theorem dX4_mix_439 : decode cX4_mix 439 = .ok (.ladd, 1) := by decide +kernel
theorem dX4_mix_440 : decode cX4_mix 440 = .ok (.lastore, 1) := by decide +kernel
theorem dX4_mix_441 : decode cX4_mix 441 = .ok (.aload_n 0, 1) := by decide +kernel
theorem dX4_mix_442 : decode cX4_mix 442 = .ok (.getfield 7, 3) := by decide +kernel
theorem dX4_mix_445 : decode cX4_mix 445 = .ok (.iconst 4, 1) := by decide +kernel
theorem dX4_mix_446 : decode cX4_mix 446 = .ok (.dup2, 1) := by decide +kernel
theorem dX4_mix_447 : decode cX4_mix 447 = .ok (.laload, 1) := by decide +kernel
theorem dX4_mix_448 : decode cX4_mix 448 = .ok (.lload 9, 2) := by decide +kernel
theorem dX4_mix_450 : decode cX4_mix 450 = .ok (.ladd, 1) := by decide +kernel
theorem dX4_mix_451 : decode cX4_mix 451 = .ok (.lastore, 1) := by decide +kernel
theorem dX4_mix_452 : decode cX4_mix 452 = .ok (.aload_n 0, 1) := by decide +kernel
theorem dX4_mix_453 : decode cX4_mix 453 = .ok (.getfield 7, 3) := by decide +kernel
theorem dX4_mix_456 : decode cX4_mix 456 = .ok (.iconst 5, 1) := by decide +kernel
theorem dX4_mix_457 : decode cX4_mix 457 = .ok (.dup2, 1) := by decide +kernel
theorem dX4_mix_458 : decode cX4_mix 458 = .ok (.laload, 1) := by decide +kernel
theorem dX4_mix_459 : decode cX4_mix 459 = .ok (.lload 11, 2) := by decide +kernel
theorem dX4_mix_461 : decode cX4_mix 461 = .ok (.ladd, 1) := by decide +kernel
theorem dX4_mix_462 : decode cX4_mix 462 = .ok (.lastore, 1) := by decide +kernel
theorem dX4_mix_463 : decode cX4_mix 463 = .ok (.aload_n 0, 1) := by decide +kernel
theorem dX4_mix_464 : decode cX4_mix 464 = .ok (.getfield 7, 3) := by decide +kernel
theorem dX4_mix_467 : decode cX4_mix 467 = .ok (.bipush 6, 2) := by decide +kernel
theorem dX4_mix_469 : decode cX4_mix 469 = .ok (.dup2, 1) := by decide +kernel
theorem dX4_mix_470 : decode cX4_mix 470 = .ok (.laload, 1) := by decide +kernel
theorem dX4_mix_471 : decode cX4_mix 471 = .ok (.lload 13, 2) := by decide +kernel
theorem dX4_mix_473 : decode cX4_mix 473 = .ok (.ladd, 1) := by decide +kernel
theorem dX4_mix_474 : decode cX4_mix 474 = .ok (.lastore, 1) := by decide +kernel
theorem dX4_mix_475 : decode cX4_mix 475 = .ok (.aload_n 0, 1) := by decide +kernel
theorem dX4_mix_476 : decode cX4_mix 476 = .ok (.getfield 7, 3) := by decide +kernel
theorem dX4_mix_479 : decode cX4_mix 479 = .ok (.bipush 7, 2) := by decide +kernel
theorem dX4_mix_481 : decode cX4_mix 481 = .ok (.dup2, 1) := by decide +kernel
theorem dX4_mix_482 : decode cX4_mix 482 = .ok (.laload, 1) := by decide +kernel
theorem dX4_mix_483 : decode cX4_mix 483 = .ok (.lload 15, 2) := by decide +kernel
theorem dX4_mix_485 : decode cX4_mix 485 = .ok (.ladd, 1) := by decide +kernel
theorem dX4_mix_486 : decode cX4_mix 486 = .ok (.lastore, 1) := by decide +kernel
theorem dX4_mix_487 : decode cX4_mix 487 = .ok (.return_, 1) := by decide +kernel
abbrev cX4_tell : ByteArray := prog_6_method_4_code
def yX4_tell : MethodName := ⟨RX4, "tell", "()V"⟩
theorem dX4_tell_0 : decode cX4_tell 0 = .ok (.iconst 0, 1) := by decide +kernel
theorem dX4_tell_1 : decode cX4_tell 1 = .ok (.istore_n 1, 1) := by decide +kernel
theorem dX4_tell_2 : decode cX4_tell 2 = .ok (.iload_n 1, 1) := by decide +kernel
theorem dX4_tell_3 : decode cX4_tell 3 = .ok (.bipush 48, 2) := by decide +kernel
theorem dX4_tell_5 : decode cX4_tell 5 = .ok (.if_icmp .ge 36, 3) := by decide +kernel
theorem dX4_tell_8 : decode cX4_tell 8 = .ok (.aload_n 0, 1) := by decide +kernel
theorem dX4_tell_9 : decode cX4_tell 9 = .ok (.getfield 40, 3) := by decide +kernel
theorem dX4_tell_12 : decode cX4_tell 12 = .ok (.iload_n 1, 1) := by decide +kernel
theorem dX4_tell_13 : decode cX4_tell 13 = .ok (.aload_n 0, 1) := by decide +kernel
theorem dX4_tell_14 : decode cX4_tell 14 = .ok (.getfield 7, 3) := by decide +kernel
theorem dX4_tell_17 : decode cX4_tell 17 = .ok (.iload_n 1, 1) := by decide +kernel
theorem dX4_tell_18 : decode cX4_tell 18 = .ok (.iconst 3, 1) := by decide +kernel
theorem dX4_tell_19 : decode cX4_tell 19 = .ok (.ishr, 1) := by decide +kernel
theorem dX4_tell_20 : decode cX4_tell 20 = .ok (.laload, 1) := by decide +kernel
theorem dX4_tell_21 : decode cX4_tell 21 = .ok (.bipush 56, 2) := by decide +kernel
theorem dX4_tell_23 : decode cX4_tell 23 = .ok (.bipush 8, 2) := by decide +kernel
theorem dX4_tell_25 : decode cX4_tell 25 = .ok (.iload_n 1, 1) := by decide +kernel
theorem dX4_tell_26 : decode cX4_tell 26 = .ok (.bipush 7, 2) := by decide +kernel
theorem dX4_tell_28 : decode cX4_tell 28 = .ok (.iand, 1) := by decide +kernel
theorem dX4_tell_29 : decode cX4_tell 29 = .ok (.imul, 1) := by decide +kernel
theorem dX4_tell_30 : decode cX4_tell 30 = .ok (.isub, 1) := by decide +kernel
theorem dX4_tell_31 : decode cX4_tell 31 = .ok (.lshr, 1) := by decide +kernel
theorem dX4_tell_32 : decode cX4_tell 32 = .ok (.l2i, 1) := by decide +kernel
theorem dX4_tell_33 : decode cX4_tell 33 = .ok (.i2b, 1) := by decide +kernel
theorem dX4_tell_34 : decode cX4_tell 34 = .ok (.bastore, 1) := by decide +kernel
theorem dX4_tell_35 : decode cX4_tell 35 = .ok (.iinc 1 1, 3) := by decide +kernel
theorem dX4_tell_38 : decode cX4_tell 38 = .ok (.goto (-36), 3) := by decide +kernel
theorem dX4_tell_41 : decode cX4_tell 41 = .ok (.return_, 1) := by decide +kernel
theorem q101 : (Jvm.Cond.initialized "VeilMint$Digest384") ∈ lw_all := lw_g (lw_at lw_m1 4 rfl) rfl
theorem q147 : (Jvm.Cond.fieldLink "VeilMint$Digest384" (25 : Nat) "VeilMint$Digest384" "block" "[B") ∈ lw_all := lw_g (lw_at lw_m1 50 rfl) rfl
theorem q148 : (Jvm.Cond.sameField "VeilMint$Digest384" "VeilMint$Digest" "block" "[B") ∈ lw_all := lw_g (lw_at lw_m1 51 rfl) rfl
theorem q152 : (Jvm.Cond.fieldLink "VeilMint$Digest384" (40 : Nat) "VeilMint$Digest384" "out" "[B") ∈ lw_all := lw_g (lw_at lw_m1 55 rfl) rfl
theorem q153 : (Jvm.Cond.sameField "VeilMint$Digest384" "VeilMint$Digest" "out" "[B") ∈ lw_all := lw_g (lw_at lw_m1 56 rfl) rfl
theorem q172 : (Jvm.Cond.instantiable "VeilMint$Digest384" (6 : Nat)) ∈ lw_all := lw_g (lw_at lw_m1 75 rfl) rfl
theorem q174 : (Jvm.Cond.instanceMethod ({ cls := "VeilMint$Digest384", name := "<init>", desc := "()V" } : Jvm.MethodName)) ∈ lw_all := lw_g (lw_at lw_m1 77 rfl) rfl
theorem q175 : (Jvm.Cond.code ({ cls := "VeilMint$Digest384", name := "<init>", desc := "()V" } : Jvm.MethodName) prog_6_method_1_code (1 : Nat) (Option.none : Option Jvm.ClassFile.FieldType)) ∈ lw_all := lw_g (lw_at lw_m1 78 rfl) rfl
theorem q176 : (Jvm.Cond.methodLink "VeilMint$Digest384" (1 : Nat) ({ cls := "VeilMint$Digest", name := "<init>", desc := "(II)V" } : Jvm.MethodName)) ∈ lw_all := lw_g (lw_at lw_m1 79 rfl) rfl
theorem q177 : (Jvm.Cond.fieldLink "VeilMint$Digest384" (7 : Nat) "VeilMint$Digest384" "h" "[J") ∈ lw_all := lw_g (lw_at lw_m1 80 rfl) rfl
theorem q178 : (Jvm.Cond.fieldLink "VeilMint$Digest384" (13 : Nat) "VeilMint$Digest384" "w" "[J") ∈ lw_all := lw_g (lw_at lw_m1 81 rfl) rfl
theorem q179 : (Jvm.Cond.laysFinal "VeilMint$Digest384" "VeilMint$Digest384" "h" "[J") ∈ lw_all := lw_g (lw_at lw_m1 82 rfl) rfl
theorem q180 : (Jvm.Cond.soleField "VeilMint$Digest384" "h") ∈ lw_all := lw_g (lw_at lw_m1 83 rfl) rfl
theorem q181 : (Jvm.Cond.laysFinal "VeilMint$Digest384" "VeilMint$Digest384" "w" "[J") ∈ lw_all := lw_g (lw_at lw_m1 84 rfl) rfl
theorem q182 : (Jvm.Cond.soleField "VeilMint$Digest384" "w") ∈ lw_all := lw_g (lw_at lw_m1 85 rfl) rfl
theorem q183 : (Jvm.Cond.laysFinal "VeilMint$Digest384" "VeilMint$Digest" "block" "[B") ∈ lw_all := lw_g (lw_at lw_m1 86 rfl) rfl
theorem q184 : (Jvm.Cond.laysFinal "VeilMint$Digest384" "VeilMint$Digest" "out" "[B") ∈ lw_all := lw_g (lw_at lw_m1 87 rfl) rfl
theorem q185 : (Jvm.Cond.lays "VeilMint$Digest384" "VeilMint$Digest" "many" "J") ∈ lw_all := lw_g (lw_at lw_m1 88 rfl) rfl
theorem q186 : (Jvm.Cond.lays "VeilMint$Digest384" "VeilMint$Digest" "at" "I") ∈ lw_all := lw_g (lw_at lw_m1 89 rfl) rfl
theorem q187 : (Jvm.Cond.superclass "VeilMint$Digest384" "VeilMint$Digest") ∈ lw_all := lw_g (lw_at lw_m1 90 rfl) rfl
theorem q834 : (Jvm.Cond.selects "VeilMint$Digest384" ({ cls := "VeilMint$Digest", name := "start", desc := "()V" } : Jvm.MethodName) ({ cls := "VeilMint$Digest384", name := "start", desc := "()V" } : Jvm.MethodName)) ∈ lw_all := lw_g (lw_at lw_m4 17 rfl) rfl
theorem q835 : (Jvm.Cond.instanceMethod ({ cls := "VeilMint$Digest384", name := "start", desc := "()V" } : Jvm.MethodName)) ∈ lw_all := lw_g (lw_at lw_m4 18 rfl) rfl
theorem q836 : (Jvm.Cond.code ({ cls := "VeilMint$Digest384", name := "start", desc := "()V" } : Jvm.MethodName) prog_6_method_2_code (1 : Nat) (Option.none : Option Jvm.ClassFile.FieldType)) ∈ lw_all := lw_g (lw_at lw_m4 19 rfl) rfl
theorem q837 : (Jvm.Cond.fieldLink "VeilMint$Digest384" (16 : Nat) "VeilMint$Digest384" "FIRST" "[J") ∈ lw_all := lw_g (lw_at lw_m4 20 rfl) rfl
theorem q838 : (Jvm.Cond.laysStatic "VeilMint$Digest384" "FIRST" "[J") ∈ lw_tbl := lw_at lw_m4 21 rfl
theorem q839 : (Jvm.Cond.methodLink "VeilMint$Digest384" (19 : Nat) ({ cls := "java/lang/System", name := "arraycopy", desc := "(Ljava/lang/Object;ILjava/lang/Object;II)V" } : Jvm.MethodName)) ∈ lw_all := lw_g (lw_at lw_m4 22 rfl) rfl
theorem q853 : (Jvm.Cond.selects "VeilMint$Digest384" ({ cls := "VeilMint$Digest", name := "put", desc := "([BII)LVeilMint$Digest;" } : Jvm.MethodName) ({ cls := "VeilMint$Digest", name := "put", desc := "([BII)LVeilMint$Digest;" } : Jvm.MethodName)) ∈ lw_all := lw_g (lw_at lw_m4 36 rfl) rfl
theorem q859 : (Jvm.Cond.selects "VeilMint$Digest384" ({ cls := "VeilMint$Digest", name := "put", desc := "(I)LVeilMint$Digest;" } : Jvm.MethodName) ({ cls := "VeilMint$Digest", name := "put", desc := "(I)LVeilMint$Digest;" } : Jvm.MethodName)) ∈ lw_all := lw_g (lw_at lw_m4 42 rfl) rfl
theorem q872 : (Jvm.Cond.selects "VeilMint$Digest384" ({ cls := "VeilMint$Digest", name := "mix", desc := "()V" } : Jvm.MethodName) ({ cls := "VeilMint$Digest384", name := "mix", desc := "()V" } : Jvm.MethodName)) ∈ lw_all := lw_g (lw_at lw_m4 55 rfl) rfl
theorem q873 : (Jvm.Cond.instanceMethod ({ cls := "VeilMint$Digest384", name := "mix", desc := "()V" } : Jvm.MethodName)) ∈ lw_all := lw_g (lw_at lw_m4 56 rfl) rfl
theorem q874 : (Jvm.Cond.code ({ cls := "VeilMint$Digest384", name := "mix", desc := "()V" } : Jvm.MethodName) prog_6_method_3_code (22 : Nat) (Option.none : Option Jvm.ClassFile.FieldType)) ∈ lw_all := lw_g (lw_at lw_m4 57 rfl) rfl
theorem q875 : (Jvm.Cond.methodLink "VeilMint$Digest384" (29 : Nat) ({ cls := "java/lang/Long", name := "rotateRight", desc := "(JI)J" } : Jvm.MethodName)) ∈ lw_all := lw_g (lw_at lw_m4 58 rfl) rfl
theorem q878 : (Jvm.Cond.constantLong "VeilMint$Digest384" (35 : Nat) (-1 : Int64)) ∈ lw_all := lw_g (lw_at lw_m4 61 rfl) rfl
theorem q879 : (Jvm.Cond.fieldLink "VeilMint$Digest384" (37 : Nat) "VeilMint$Digest384" "ROUNDS" "[J") ∈ lw_all := lw_g (lw_at lw_m4 62 rfl) rfl
theorem q880 : (Jvm.Cond.laysStatic "VeilMint$Digest384" "ROUNDS" "[J") ∈ lw_tbl := lw_at lw_m4 63 rfl
theorem q898 : (Jvm.Cond.selects "VeilMint$Digest384" ({ cls := "VeilMint$Digest", name := "tell", desc := "()V" } : Jvm.MethodName) ({ cls := "VeilMint$Digest384", name := "tell", desc := "()V" } : Jvm.MethodName)) ∈ lw_all := lw_g (lw_at lw_m4 81 rfl) rfl
theorem q899 : (Jvm.Cond.instanceMethod ({ cls := "VeilMint$Digest384", name := "tell", desc := "()V" } : Jvm.MethodName)) ∈ lw_all := lw_g (lw_at lw_m4 82 rfl) rfl
theorem q900 : (Jvm.Cond.code ({ cls := "VeilMint$Digest384", name := "tell", desc := "()V" } : Jvm.MethodName) prog_6_method_4_code (2 : Nat) (Option.none : Option Jvm.ClassFile.FieldType)) ∈ lw_all := lw_g (lw_at lw_m4 83 rfl) rfl
theorem q939 : (Jvm.Cond.sameMethod "VeilMint$Digest384" "VeilMint$Digest" "begin" "()LVeilMint$Digest;") ∈ lw_all := lw_g (lw_at lw_m4 122 rfl) rfl
theorem q940 : (Jvm.Cond.selects "VeilMint$Digest384" ({ cls := "VeilMint$Digest384", name := "begin", desc := "()LVeilMint$Digest;" } : Jvm.MethodName) ({ cls := "VeilMint$Digest", name := "begin", desc := "()LVeilMint$Digest;" } : Jvm.MethodName)) ∈ lw_all := lw_g (lw_at lw_m4 123 rfl) rfl
theorem q942 : (Jvm.Cond.sameMethod "VeilMint$Digest384" "VeilMint$Digest" "put" "(I)LVeilMint$Digest;") ∈ lw_all := lw_g (lw_at lw_m4 125 rfl) rfl
theorem q943 : (Jvm.Cond.selects "VeilMint$Digest384" ({ cls := "VeilMint$Digest384", name := "put", desc := "(I)LVeilMint$Digest;" } : Jvm.MethodName) ({ cls := "VeilMint$Digest", name := "put", desc := "(I)LVeilMint$Digest;" } : Jvm.MethodName)) ∈ lw_all := lw_g (lw_at lw_m4 126 rfl) rfl
theorem q956 : (Jvm.Cond.sameMethod "VeilMint$Digest384" "VeilMint$Digest" "two" "(I)LVeilMint$Digest;") ∈ lw_all := lw_g (lw_at lw_m4 139 rfl) rfl
theorem q958 : (Jvm.Cond.selects "VeilMint$Digest384" ({ cls := "VeilMint$Digest384", name := "two", desc := "(I)LVeilMint$Digest;" } : Jvm.MethodName) ({ cls := "VeilMint$Digest", name := "two", desc := "(I)LVeilMint$Digest;" } : Jvm.MethodName)) ∈ lw_all := lw_g (lw_at lw_m4 141 rfl) rfl
theorem q967 : (Jvm.Cond.sameMethod "VeilMint$Digest384" "VeilMint$Digest" "word" "(Ljava/lang/String;)LVeilMint$Digest;") ∈ lw_all := lw_g (lw_at lw_m4 150 rfl) rfl
theorem q969 : (Jvm.Cond.selects "VeilMint$Digest384" ({ cls := "VeilMint$Digest384", name := "word", desc := "(Ljava/lang/String;)LVeilMint$Digest;" } : Jvm.MethodName) ({ cls := "VeilMint$Digest", name := "word", desc := "(Ljava/lang/String;)LVeilMint$Digest;" } : Jvm.MethodName)) ∈ lw_all := lw_g (lw_at lw_m4 152 rfl) rfl
theorem q978 : (Jvm.Cond.sameMethod "VeilMint$Digest384" "VeilMint$Digest" "end" "()[B") ∈ lw_all := lw_g (lw_at lw_m4 161 rfl) rfl
theorem q979 : (Jvm.Cond.selects "VeilMint$Digest384" ({ cls := "VeilMint$Digest384", name := "end", desc := "()[B" } : Jvm.MethodName) ({ cls := "VeilMint$Digest", name := "end", desc := "()[B" } : Jvm.MethodName)) ∈ lw_all := lw_g (lw_at lw_m4 162 rfl) rfl
theorem q1043 : (Jvm.Cond.sameMethod "VeilMint$Digest384" "VeilMint$Digest" "put" "([BII)LVeilMint$Digest;") ∈ lw_all := lw_g (lw_at lw_m4 226 rfl) rfl
theorem q1045 : (Jvm.Cond.selects "VeilMint$Digest384" ({ cls := "VeilMint$Digest384", name := "put", desc := "([BII)LVeilMint$Digest;" } : Jvm.MethodName) ({ cls := "VeilMint$Digest", name := "put", desc := "([BII)LVeilMint$Digest;" } : Jvm.MethodName)) ∈ lw_all := lw_g (lw_at lw_m4 228 rfl) rfl
theorem q2134 : (Jvm.Cond.selects "VeilMint$Digest384" ({ cls := "VeilMint$Digest", name := "end", desc := "()[B" } : Jvm.MethodName) ({ cls := "VeilMint$Digest", name := "end", desc := "()[B" } : Jvm.MethodName)) ∈ lw_all := lw_g (lw_at lw_m9 117 rfl) rfl
theorem q2137 : (Jvm.Cond.selects "VeilMint$Digest384" ({ cls := "VeilMint$Digest", name := "word", desc := "(Ljava/lang/String;)LVeilMint$Digest;" } : Jvm.MethodName) ({ cls := "VeilMint$Digest", name := "word", desc := "(Ljava/lang/String;)LVeilMint$Digest;" } : Jvm.MethodName)) ∈ lw_all := lw_g (lw_at lw_m9 120 rfl) rfl
theorem q2140 : (Jvm.Cond.selects "VeilMint$Digest384" ({ cls := "VeilMint$Digest", name := "two", desc := "(I)LVeilMint$Digest;" } : Jvm.MethodName) ({ cls := "VeilMint$Digest", name := "two", desc := "(I)LVeilMint$Digest;" } : Jvm.MethodName)) ∈ lw_all := lw_g (lw_at lw_m9 123 rfl) rfl
theorem q2144 : (Jvm.Cond.castable "VeilMint$Digest384" "java/lang/Object") ∈ lw_tbl := lw_at lw_m9 127 rfl
theorem in_X4 : ∀ w ∈ wsX40, w ∈ lw_all := lw_in wsX40 [183, 184, 185, 186, 179, 181] (by decide +kernel) (by decide +kernel)
