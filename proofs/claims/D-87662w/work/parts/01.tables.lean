-- ===== PART A: goes FIRST, ahead of the names: the tables' words, and 'selects' of the private methods out of them =====
/-- a private method of a class that the tables say can be made, by its rows of tables_1 -/
def lw_okq (q : MethodName × Nat) : Prop := (q.1.cls ≠ "java/lang/invoke/MethodHandle" ∧ q.1.cls ≠ "java/lang/invoke/VarHandle") ∧ Cond.instantiable q.1.cls q.2 ∈ tables_1 ∧ Cond.privateMethod q.1 ∈ tables_1 ∧ Cond.instanceMethod q.1 ∈ tables_1
set_option maxRecDepth 100000
theorem lw_t1 {w : Cond} (h : w ∈ tables_1_1) : w ∈ tables_1 := List.mem_append_left _ h
theorem lw_t2 {w : Cond} (h : w ∈ tables_1_2) : w ∈ tables_1 := List.mem_append_right _ (List.mem_append_left _ h)
theorem lw_t3 {w : Cond} (h : w ∈ tables_1_3) : w ∈ tables_1 := List.mem_append_right _ (List.mem_append_right _ (List.mem_append_left _ h))
theorem lw_t4 {w : Cond} (h : w ∈ tables_1_4) : w ∈ tables_1 := List.mem_append_right _ (List.mem_append_right _ (List.mem_append_right _ (List.mem_append_left _ h)))
theorem lw_t5 {w : Cond} (h : w ∈ tables_1_5) : w ∈ tables_1 := List.mem_append_right _ (List.mem_append_right _ (List.mem_append_right _ (List.mem_append_right _ (List.mem_append_left _ h))))
theorem lw_t6 {w : Cond} (h : w ∈ tables_1_6) : w ∈ tables_1 := List.mem_append_right _ (List.mem_append_right _ (List.mem_append_right _ (List.mem_append_right _ (List.mem_append_right _ (List.mem_append_left _ h)))))
theorem lw_t7 {w : Cond} (h : w ∈ tables_1_7) : w ∈ tables_1 := List.mem_append_right _ (List.mem_append_right _ (List.mem_append_right _ (List.mem_append_right _ (List.mem_append_right _ (List.mem_append_right _ (List.mem_append_left _ h))))))
theorem lw_t8 {w : Cond} (h : w ∈ tables_1_8) : w ∈ tables_1 := List.mem_append_right _ (List.mem_append_right _ (List.mem_append_right _ (List.mem_append_right _ (List.mem_append_right _ (List.mem_append_right _ (List.mem_append_right _ (List.mem_append_left _ h)))))))
theorem lw_t9 {w : Cond} (h : w ∈ tables_1_9) : w ∈ tables_1 := List.mem_append_right _ (List.mem_append_right _ (List.mem_append_right _ (List.mem_append_right _ (List.mem_append_right _ (List.mem_append_right _ (List.mem_append_right _ (List.mem_append_right _ h)))))))
theorem lw_p0 : lw_okq (⟨"java/lang/Throwable", "fillInStackTrace", "(I)Ljava/lang/Throwable;"⟩, 6) := ⟨⟨by decide +kernel, by decide +kernel⟩, lw_t2 (List.mem_of_getElem? (i := 126) rfl), lw_t2 (List.mem_of_getElem? (i := 124) rfl), lw_t2 (List.mem_of_getElem? (i := 125) rfl)⟩
theorem lw_p1 : lw_okq (⟨"VeilMint", "four", "(I)V"⟩, 15) := ⟨⟨by decide +kernel, by decide +kernel⟩, lw_t1 (List.mem_of_getElem? (i := 29) rfl), lw_t2 (List.mem_of_getElem? (i := 238) rfl), lw_t2 (List.mem_of_getElem? (i := 239) rfl)⟩
theorem lw_p2 : lw_okq (⟨"VeilMint", "use", "()I"⟩, 15) := ⟨⟨by decide +kernel, by decide +kernel⟩, lw_t1 (List.mem_of_getElem? (i := 29) rfl), lw_t3 (List.mem_of_getElem? (i := 23) rfl), lw_t3 (List.mem_of_getElem? (i := 24) rfl)⟩
theorem lw_p3 : lw_okq (⟨"VeilMint$Oblivious", "isSecret", "([BI[I)Z"⟩, 18) := ⟨⟨by decide +kernel, by decide +kernel⟩, lw_t3 (List.mem_of_getElem? (i := 27) rfl), lw_t3 (List.mem_of_getElem? (i := 38) rfl), lw_t3 (List.mem_of_getElem? (i := 39) rfl)⟩
theorem lw_p4 : lw_okq (⟨"VeilMint$Modulus", "half", "([I)V"⟩, 11) := ⟨⟨by decide +kernel, by decide +kernel⟩, lw_t1 (List.mem_of_getElem? (i := 99) rfl), lw_t3 (List.mem_of_getElem? (i := 99) rfl), lw_t3 (List.mem_of_getElem? (i := 100) rfl)⟩
theorem lw_p5 : lw_okq (⟨"VeilMint", "told", "(I)I"⟩, 15) := ⟨⟨by decide +kernel, by decide +kernel⟩, lw_t1 (List.mem_of_getElem? (i := 29) rfl), lw_t4 (List.mem_of_getElem? (i := 90) rfl), lw_t4 (List.mem_of_getElem? (i := 91) rfl)⟩
theorem lw_p6 : lw_okq (⟨"VeilMint$Oblivious", "group", "([BILVeilMint$Point;)V"⟩, 18) := ⟨⟨by decide +kernel, by decide +kernel⟩, lw_t3 (List.mem_of_getElem? (i := 27) rfl), lw_t4 (List.mem_of_getElem? (i := 114) rfl), lw_t4 (List.mem_of_getElem? (i := 115) rfl)⟩
theorem lw_p7 : lw_okq (⟨"VeilMint$Curve", "tag", "(Ljava/lang/String;I)V"⟩, 21) := ⟨⟨by decide +kernel, by decide +kernel⟩, lw_t1 (List.mem_of_getElem? (i := 93) rfl), lw_t4 (List.mem_of_getElem? (i := 146) rfl), lw_t4 (List.mem_of_getElem? (i := 147) rfl)⟩
theorem lw_p8 : lw_okq (⟨"VeilMint$Curve", "map", "(ILVeilMint$Point;)V"⟩, 21) := ⟨⟨by decide +kernel, by decide +kernel⟩, lw_t1 (List.mem_of_getElem? (i := 93) rfl), lw_t4 (List.mem_of_getElem? (i := 165) rfl), lw_t4 (List.mem_of_getElem? (i := 166) rfl)⟩
theorem lw_p9 : lw_okq (⟨"VeilMint$Curve", "firstX", "([I[I)V"⟩, 21) := ⟨⟨by decide +kernel, by decide +kernel⟩, lw_t1 (List.mem_of_getElem? (i := 93) rfl), lw_t4 (List.mem_of_getElem? (i := 173) rfl), lw_t4 (List.mem_of_getElem? (i := 174) rfl)⟩
theorem lw_p10 : lw_okq (⟨"VeilMint$Curve", "negateInto", "([I[I)V"⟩, 21) := ⟨⟨by decide +kernel, by decide +kernel⟩, lw_t1 (List.mem_of_getElem? (i := 93) rfl), lw_t4 (List.mem_of_getElem? (i := 177) rfl), lw_t4 (List.mem_of_getElem? (i := 178) rfl)⟩
theorem lw_p11 : lw_okq (⟨"VeilMint$Curve", "square", "([I[I)V"⟩, 21) := ⟨⟨by decide +kernel, by decide +kernel⟩, lw_t1 (List.mem_of_getElem? (i := 93) rfl), lw_t4 (List.mem_of_getElem? (i := 181) rfl), lw_t4 (List.mem_of_getElem? (i := 182) rfl)⟩
theorem lw_p12 : lw_okq (⟨"VeilMint$Curve", "negate", "([I)V"⟩, 21) := ⟨⟨by decide +kernel, by decide +kernel⟩, lw_t1 (List.mem_of_getElem? (i := 93) rfl), lw_t4 (List.mem_of_getElem? (i := 197) rfl), lw_t4 (List.mem_of_getElem? (i := 198) rfl)⟩
theorem lw_p13 : lw_okq (⟨"VeilMint$Oblivious", "write", "(LVeilMint$Point;[BI)V"⟩, 18) := ⟨⟨by decide +kernel, by decide +kernel⟩, lw_t3 (List.mem_of_getElem? (i := 27) rfl), lw_t4 (List.mem_of_getElem? (i := 201) rfl), lw_t4 (List.mem_of_getElem? (i := 202) rfl)⟩
theorem lw_p14 : lw_okq (⟨"VeilMint$Signing", "encode", "([BI[BI)V"⟩, 17) := ⟨⟨by decide +kernel, by decide +kernel⟩, lw_t3 (List.mem_of_getElem? (i := 165) rfl), lw_t4 (List.mem_of_getElem? (i := 210) rfl), lw_t4 (List.mem_of_getElem? (i := 211) rfl)⟩
theorem lw_p15 : lw_okq (⟨"VeilMint$Signing", "length", "()I"⟩, 17) := ⟨⟨by decide +kernel, by decide +kernel⟩, lw_t3 (List.mem_of_getElem? (i := 165) rfl), lw_t4 (List.mem_of_getElem? (i := 214) rfl), lw_t4 (List.mem_of_getElem? (i := 215) rfl)⟩
def lw_privs_1 : List (MethodName × Nat) := [(⟨"java/lang/Throwable", "fillInStackTrace", "(I)Ljava/lang/Throwable;"⟩, 6), (⟨"VeilMint", "four", "(I)V"⟩, 15), (⟨"VeilMint", "use", "()I"⟩, 15), (⟨"VeilMint$Oblivious", "isSecret", "([BI[I)Z"⟩, 18), (⟨"VeilMint$Modulus", "half", "([I)V"⟩, 11), (⟨"VeilMint", "told", "(I)I"⟩, 15), (⟨"VeilMint$Oblivious", "group", "([BILVeilMint$Point;)V"⟩, 18), (⟨"VeilMint$Curve", "tag", "(Ljava/lang/String;I)V"⟩, 21), (⟨"VeilMint$Curve", "map", "(ILVeilMint$Point;)V"⟩, 21), (⟨"VeilMint$Curve", "firstX", "([I[I)V"⟩, 21), (⟨"VeilMint$Curve", "negateInto", "([I[I)V"⟩, 21), (⟨"VeilMint$Curve", "square", "([I[I)V"⟩, 21), (⟨"VeilMint$Curve", "negate", "([I)V"⟩, 21), (⟨"VeilMint$Oblivious", "write", "(LVeilMint$Point;[BI)V"⟩, 18), (⟨"VeilMint$Signing", "encode", "([BI[BI)V"⟩, 17), (⟨"VeilMint$Signing", "length", "()I"⟩, 17)]
theorem lw_r1 : ∀ q ∈ lw_privs_1, lw_okq q := List.forall_mem_cons.mpr ⟨lw_p0, List.forall_mem_cons.mpr ⟨lw_p1, List.forall_mem_cons.mpr ⟨lw_p2, List.forall_mem_cons.mpr ⟨lw_p3, List.forall_mem_cons.mpr ⟨lw_p4, List.forall_mem_cons.mpr ⟨lw_p5, List.forall_mem_cons.mpr ⟨lw_p6, List.forall_mem_cons.mpr ⟨lw_p7, List.forall_mem_cons.mpr ⟨lw_p8, List.forall_mem_cons.mpr ⟨lw_p9, List.forall_mem_cons.mpr ⟨lw_p10, List.forall_mem_cons.mpr ⟨lw_p11, List.forall_mem_cons.mpr ⟨lw_p12, List.forall_mem_cons.mpr ⟨lw_p13, List.forall_mem_cons.mpr ⟨lw_p14, List.forall_mem_cons.mpr ⟨lw_p15, fun _ h => absurd h List.not_mem_nil⟩⟩⟩⟩⟩⟩⟩⟩⟩⟩⟩⟩⟩⟩⟩⟩
theorem lw_p16 : lw_okq (⟨"VeilMint$Signing", "salted", "([BI[BI)[B"⟩, 17) := ⟨⟨by decide +kernel, by decide +kernel⟩, lw_t3 (List.mem_of_getElem? (i := 165) rfl), lw_t4 (List.mem_of_getElem? (i := 218) rfl), lw_t4 (List.mem_of_getElem? (i := 219) rfl)⟩
theorem lw_p17 : lw_okq (⟨"VeilMint$Signing", "mask", "([BI[BI)V"⟩, 17) := ⟨⟨by decide +kernel, by decide +kernel⟩, lw_t3 (List.mem_of_getElem? (i := 165) rfl), lw_t4 (List.mem_of_getElem? (i := 230) rfl), lw_t4 (List.mem_of_getElem? (i := 231) rfl)⟩
theorem lw_p18 : lw_okq (⟨"VeilMint", "issued", "(IIZ)I"⟩, 15) := ⟨⟨by decide +kernel, by decide +kernel⟩, lw_t1 (List.mem_of_getElem? (i := 29) rfl), lw_t5 (List.mem_of_getElem? (i := 36) rfl), lw_t5 (List.mem_of_getElem? (i := 37) rfl)⟩
theorem lw_p19 : lw_okq (⟨"VeilMint", "liveOf", "(II)LVeilMint$Key;"⟩, 15) := ⟨⟨by decide +kernel, by decide +kernel⟩, lw_t1 (List.mem_of_getElem? (i := 29) rfl), lw_t5 (List.mem_of_getElem? (i := 40) rfl), lw_t5 (List.mem_of_getElem? (i := 41) rfl)⟩
theorem lw_p20 : lw_okq (⟨"VeilMint$Oblivious", "read", "([BILVeilMint$Point;)V"⟩, 18) := ⟨⟨by decide +kernel, by decide +kernel⟩, lw_t3 (List.mem_of_getElem? (i := 27) rfl), lw_t5 (List.mem_of_getElem? (i := 59) rfl), lw_t5 (List.mem_of_getElem? (i := 60) rfl)⟩
theorem lw_p21 : lw_okq (⟨"VeilMint$Oblivious", "composites", "([BI[BIIZ)V"⟩, 18) := ⟨⟨by decide +kernel, by decide +kernel⟩, lw_t3 (List.mem_of_getElem? (i := 27) rfl), lw_t5 (List.mem_of_getElem? (i := 68) rfl), lw_t5 (List.mem_of_getElem? (i := 69) rfl)⟩
theorem lw_p22 : lw_okq (⟨"VeilMint$Oblivious", "challenge", "(LVeilMint$Point;LVeilMint$Point;[I)V"⟩, 18) := ⟨⟨by decide +kernel, by decide +kernel⟩, lw_t3 (List.mem_of_getElem? (i := 27) rfl), lw_t5 (List.mem_of_getElem? (i := 87) rfl), lw_t5 (List.mem_of_getElem? (i := 88) rfl)⟩
theorem lw_p23 : lw_okq (⟨"VeilMint", "isId", "(LVeilMint$Key;)Z"⟩, 15) := ⟨⟨by decide +kernel, by decide +kernel⟩, lw_t1 (List.mem_of_getElem? (i := 29) rfl), lw_t5 (List.mem_of_getElem? (i := 118) rfl), lw_t5 (List.mem_of_getElem? (i := 119) rfl)⟩
theorem lw_p24 : lw_okq (⟨"VeilMint$Oblivious", "output", "([BI[BI)V"⟩, 18) := ⟨⟨by decide +kernel, by decide +kernel⟩, lw_t3 (List.mem_of_getElem? (i := 27) rfl), lw_t5 (List.mem_of_getElem? (i := 137) rfl), lw_t5 (List.mem_of_getElem? (i := 138) rfl)⟩
theorem lw_p25 : lw_okq (⟨"VeilMint$Signing", "isCode", "([BI)Z"⟩, 17) := ⟨⟨by decide +kernel, by decide +kernel⟩, lw_t3 (List.mem_of_getElem? (i := 165) rfl), lw_t5 (List.mem_of_getElem? (i := 145) rfl), lw_t5 (List.mem_of_getElem? (i := 146) rfl)⟩
theorem lw_p26 : lw_okq (⟨"VeilMint$Disk", "isFree", "(I)Z"⟩, 5) := ⟨⟨by decide +kernel, by decide +kernel⟩, lw_t2 (List.mem_of_getElem? (i := 158) rfl), lw_t5 (List.mem_of_getElem? (i := 154) rfl), lw_t5 (List.mem_of_getElem? (i := 155) rfl)⟩
theorem lw_p27 : lw_okq (⟨"VeilMint$Disk", "write", "(I[BI)I"⟩, 5) := ⟨⟨by decide +kernel, by decide +kernel⟩, lw_t2 (List.mem_of_getElem? (i := 158) rfl), lw_t5 (List.mem_of_getElem? (i := 161) rfl), lw_t5 (List.mem_of_getElem? (i := 162) rfl)⟩
theorem lw_p28 : lw_okq (⟨"VeilMint$Disk", "has", "(I[BI)Z"⟩, 5) := ⟨⟨by decide +kernel, by decide +kernel⟩, lw_t2 (List.mem_of_getElem? (i := 158) rfl), lw_t5 (List.mem_of_getElem? (i := 166) rfl), lw_t5 (List.mem_of_getElem? (i := 167) rfl)⟩
theorem lw_p29 : lw_okq (⟨"VeilMint", "keyAt", "(I)LVeilMint$Key;"⟩, 15) := ⟨⟨by decide +kernel, by decide +kernel⟩, lw_t1 (List.mem_of_getElem? (i := 29) rfl), lw_t5 (List.mem_of_getElem? (i := 198) rfl), lw_t5 (List.mem_of_getElem? (i := 199) rfl)⟩
theorem lw_p30 : lw_okq (⟨"VeilMint", "mustBeOpen", "(I)V"⟩, 15) := ⟨⟨by decide +kernel, by decide +kernel⟩, lw_t1 (List.mem_of_getElem? (i := 29) rfl), lw_t5 (List.mem_of_getElem? (i := 237) rfl), lw_t5 (List.mem_of_getElem? (i := 238) rfl)⟩
theorem lw_p31 : lw_okq (⟨"VeilMint", "finished", "(III)I"⟩, 15) := ⟨⟨by decide +kernel, by decide +kernel⟩, lw_t1 (List.mem_of_getElem? (i := 29) rfl), lw_t6 (List.mem_of_getElem? (i := 1) rfl), lw_t6 (List.mem_of_getElem? (i := 2) rfl)⟩
def lw_privs_2 : List (MethodName × Nat) := [(⟨"VeilMint$Signing", "salted", "([BI[BI)[B"⟩, 17), (⟨"VeilMint$Signing", "mask", "([BI[BI)V"⟩, 17), (⟨"VeilMint", "issued", "(IIZ)I"⟩, 15), (⟨"VeilMint", "liveOf", "(II)LVeilMint$Key;"⟩, 15), (⟨"VeilMint$Oblivious", "read", "([BILVeilMint$Point;)V"⟩, 18), (⟨"VeilMint$Oblivious", "composites", "([BI[BIIZ)V"⟩, 18), (⟨"VeilMint$Oblivious", "challenge", "(LVeilMint$Point;LVeilMint$Point;[I)V"⟩, 18), (⟨"VeilMint", "isId", "(LVeilMint$Key;)Z"⟩, 15), (⟨"VeilMint$Oblivious", "output", "([BI[BI)V"⟩, 18), (⟨"VeilMint$Signing", "isCode", "([BI)Z"⟩, 17), (⟨"VeilMint$Disk", "isFree", "(I)Z"⟩, 5), (⟨"VeilMint$Disk", "write", "(I[BI)I"⟩, 5), (⟨"VeilMint$Disk", "has", "(I[BI)Z"⟩, 5), (⟨"VeilMint", "keyAt", "(I)LVeilMint$Key;"⟩, 15), (⟨"VeilMint", "mustBeOpen", "(I)V"⟩, 15), (⟨"VeilMint", "finished", "(III)I"⟩, 15)]
theorem lw_r2 : ∀ q ∈ lw_privs_2, lw_okq q := List.forall_mem_cons.mpr ⟨lw_p16, List.forall_mem_cons.mpr ⟨lw_p17, List.forall_mem_cons.mpr ⟨lw_p18, List.forall_mem_cons.mpr ⟨lw_p19, List.forall_mem_cons.mpr ⟨lw_p20, List.forall_mem_cons.mpr ⟨lw_p21, List.forall_mem_cons.mpr ⟨lw_p22, List.forall_mem_cons.mpr ⟨lw_p23, List.forall_mem_cons.mpr ⟨lw_p24, List.forall_mem_cons.mpr ⟨lw_p25, List.forall_mem_cons.mpr ⟨lw_p26, List.forall_mem_cons.mpr ⟨lw_p27, List.forall_mem_cons.mpr ⟨lw_p28, List.forall_mem_cons.mpr ⟨lw_p29, List.forall_mem_cons.mpr ⟨lw_p30, List.forall_mem_cons.mpr ⟨lw_p31, fun _ h => absurd h List.not_mem_nil⟩⟩⟩⟩⟩⟩⟩⟩⟩⟩⟩⟩⟩⟩⟩⟩
theorem lw_p32 : lw_okq (⟨"VeilMintModel", "used", "()I"⟩, 96) := ⟨⟨by decide +kernel, by decide +kernel⟩, lw_t6 (List.mem_of_getElem? (i := 29) rfl), lw_t7 (List.mem_of_getElem? (i := 187) rfl), lw_t7 (List.mem_of_getElem? (i := 188) rfl)⟩
theorem lw_p33 : lw_okq (⟨"VeilMintModel", "keyOne", "(I)I"⟩, 96) := ⟨⟨by decide +kernel, by decide +kernel⟩, lw_t6 (List.mem_of_getElem? (i := 29) rfl), lw_t7 (List.mem_of_getElem? (i := 191) rfl), lw_t7 (List.mem_of_getElem? (i := 192) rfl)⟩
theorem lw_p34 : lw_okq (⟨"VeilMintModel", "multiply", "([ILVeilMintModel$Spot;LVeilMintModel$Spot;)V"⟩, 96) := ⟨⟨by decide +kernel, by decide +kernel⟩, lw_t6 (List.mem_of_getElem? (i := 29) rfl), lw_t7 (List.mem_of_getElem? (i := 207) rfl), lw_t7 (List.mem_of_getElem? (i := 208) rfl)⟩
theorem lw_p35 : lw_okq (⟨"VeilMintModel", "doubles", "()V"⟩, 96) := ⟨⟨by decide +kernel, by decide +kernel⟩, lw_t6 (List.mem_of_getElem? (i := 29) rfl), lw_t7 (List.mem_of_getElem? (i := 216) rfl), lw_t7 (List.mem_of_getElem? (i := 217) rfl)⟩
theorem lw_p36 : lw_okq (⟨"VeilMintModel", "times", "(LVeilMintModel$Mod;[I[I[I)V"⟩, 96) := ⟨⟨by decide +kernel, by decide +kernel⟩, lw_t6 (List.mem_of_getElem? (i := 29) rfl), lw_t7 (List.mem_of_getElem? (i := 220) rfl), lw_t7 (List.mem_of_getElem? (i := 221) rfl)⟩
theorem lw_p37 : lw_okq (⟨"VeilMintModel", "folds", "([I)V"⟩, 96) := ⟨⟨by decide +kernel, by decide +kernel⟩, lw_t6 (List.mem_of_getElem? (i := 29) rfl), lw_t7 (List.mem_of_getElem? (i := 224) rfl), lw_t7 (List.mem_of_getElem? (i := 225) rfl)⟩
theorem lw_p38 : lw_okq (⟨"VeilMintModel", "folded", "(IJ)V"⟩, 96) := ⟨⟨by decide +kernel, by decide +kernel⟩, lw_t6 (List.mem_of_getElem? (i := 29) rfl), lw_t7 (List.mem_of_getElem? (i := 228) rfl), lw_t7 (List.mem_of_getElem? (i := 229) rfl)⟩
theorem lw_p39 : lw_okq (⟨"VeilMintModel", "carried", "([I)J"⟩, 96) := ⟨⟨by decide +kernel, by decide +kernel⟩, lw_t6 (List.mem_of_getElem? (i := 29) rfl), lw_t7 (List.mem_of_getElem? (i := 232) rfl), lw_t7 (List.mem_of_getElem? (i := 233) rfl)⟩
theorem lw_p40 : lw_okq (⟨"VeilMintModel", "rest", "(LVeilMintModel$Mod;I[I)V"⟩, 96) := ⟨⟨by decide +kernel, by decide +kernel⟩, lw_t6 (List.mem_of_getElem? (i := 29) rfl), lw_t7 (List.mem_of_getElem? (i := 236) rfl), lw_t7 (List.mem_of_getElem? (i := 237) rfl)⟩
theorem lw_p41 : lw_okq (⟨"VeilMintModel", "takes", "(LVeilMintModel$Mod;IJ)V"⟩, 96) := ⟨⟨by decide +kernel, by decide +kernel⟩, lw_t6 (List.mem_of_getElem? (i := 29) rfl), lw_t8 (List.mem_of_getElem? (i := 15) rfl), lw_t8 (List.mem_of_getElem? (i := 16) rfl)⟩
theorem lw_p42 : lw_okq (⟨"VeilMintModel", "eight", "([I)V"⟩, 96) := ⟨⟨by decide +kernel, by decide +kernel⟩, lw_t6 (List.mem_of_getElem? (i := 29) rfl), lw_t8 (List.mem_of_getElem? (i := 25) rfl), lw_t8 (List.mem_of_getElem? (i := 26) rfl)⟩
theorem lw_p43 : lw_okq (⟨"VeilMintModel", "steps", "()Z"⟩, 96) := ⟨⟨by decide +kernel, by decide +kernel⟩, lw_t6 (List.mem_of_getElem? (i := 29) rfl), lw_t8 (List.mem_of_getElem? (i := 29) rfl), lw_t8 (List.mem_of_getElem? (i := 30) rfl)⟩
theorem lw_p44 : lw_okq (⟨"VeilMintModel", "inverse", "(LVeilMintModel$Mod;[I[I)Z"⟩, 96) := ⟨⟨by decide +kernel, by decide +kernel⟩, lw_t6 (List.mem_of_getElem? (i := 29) rfl), lw_t8 (List.mem_of_getElem? (i := 33) rfl), lw_t8 (List.mem_of_getElem? (i := 34) rfl)⟩
theorem lw_p45 : lw_okq (⟨"VeilMintModel", "comes", "(I)I"⟩, 96) := ⟨⟨by decide +kernel, by decide +kernel⟩, lw_t6 (List.mem_of_getElem? (i := 29) rfl), lw_t8 (List.mem_of_getElem? (i := 43) rfl), lw_t8 (List.mem_of_getElem? (i := 44) rfl)⟩
theorem lw_p46 : lw_okq (⟨"VeilMintModel", "keyId", "(I)V"⟩, 96) := ⟨⟨by decide +kernel, by decide +kernel⟩, lw_t6 (List.mem_of_getElem? (i := 29) rfl), lw_t8 (List.mem_of_getElem? (i := 47) rfl), lw_t8 (List.mem_of_getElem? (i := 48) rfl)⟩
theorem lw_p47 : lw_okq (⟨"VeilMintModel", "say", "([BII)V"⟩, 96) := ⟨⟨by decide +kernel, by decide +kernel⟩, lw_t6 (List.mem_of_getElem? (i := 29) rfl), lw_t8 (List.mem_of_getElem? (i := 57) rfl), lw_t8 (List.mem_of_getElem? (i := 58) rfl)⟩
def lw_privs_3 : List (MethodName × Nat) := [(⟨"VeilMintModel", "used", "()I"⟩, 96), (⟨"VeilMintModel", "keyOne", "(I)I"⟩, 96), (⟨"VeilMintModel", "multiply", "([ILVeilMintModel$Spot;LVeilMintModel$Spot;)V"⟩, 96), (⟨"VeilMintModel", "doubles", "()V"⟩, 96), (⟨"VeilMintModel", "times", "(LVeilMintModel$Mod;[I[I[I)V"⟩, 96), (⟨"VeilMintModel", "folds", "([I)V"⟩, 96), (⟨"VeilMintModel", "folded", "(IJ)V"⟩, 96), (⟨"VeilMintModel", "carried", "([I)J"⟩, 96), (⟨"VeilMintModel", "rest", "(LVeilMintModel$Mod;I[I)V"⟩, 96), (⟨"VeilMintModel", "takes", "(LVeilMintModel$Mod;IJ)V"⟩, 96), (⟨"VeilMintModel", "eight", "([I)V"⟩, 96), (⟨"VeilMintModel", "steps", "()Z"⟩, 96), (⟨"VeilMintModel", "inverse", "(LVeilMintModel$Mod;[I[I)Z"⟩, 96), (⟨"VeilMintModel", "comes", "(I)I"⟩, 96), (⟨"VeilMintModel", "keyId", "(I)V"⟩, 96), (⟨"VeilMintModel", "say", "([BII)V"⟩, 96)]
theorem lw_r3 : ∀ q ∈ lw_privs_3, lw_okq q := List.forall_mem_cons.mpr ⟨lw_p32, List.forall_mem_cons.mpr ⟨lw_p33, List.forall_mem_cons.mpr ⟨lw_p34, List.forall_mem_cons.mpr ⟨lw_p35, List.forall_mem_cons.mpr ⟨lw_p36, List.forall_mem_cons.mpr ⟨lw_p37, List.forall_mem_cons.mpr ⟨lw_p38, List.forall_mem_cons.mpr ⟨lw_p39, List.forall_mem_cons.mpr ⟨lw_p40, List.forall_mem_cons.mpr ⟨lw_p41, List.forall_mem_cons.mpr ⟨lw_p42, List.forall_mem_cons.mpr ⟨lw_p43, List.forall_mem_cons.mpr ⟨lw_p44, List.forall_mem_cons.mpr ⟨lw_p45, List.forall_mem_cons.mpr ⟨lw_p46, List.forall_mem_cons.mpr ⟨lw_p47, fun _ h => absurd h List.not_mem_nil⟩⟩⟩⟩⟩⟩⟩⟩⟩⟩⟩⟩⟩⟩⟩⟩
theorem lw_p48 : lw_okq (⟨"VeilMintModel", "say", "(I)V"⟩, 96) := ⟨⟨by decide +kernel, by decide +kernel⟩, lw_t6 (List.mem_of_getElem? (i := 29) rfl), lw_t8 (List.mem_of_getElem? (i := 61) rfl), lw_t8 (List.mem_of_getElem? (i := 62) rfl)⟩
theorem lw_p49 : lw_okq (⟨"VeilMintModel", "both", "(I)V"⟩, 96) := ⟨⟨by decide +kernel, by decide +kernel⟩, lw_t6 (List.mem_of_getElem? (i := 29) rfl), lw_t8 (List.mem_of_getElem? (i := 65) rfl), lw_t8 (List.mem_of_getElem? (i := 66) rfl)⟩
theorem lw_p50 : lw_okq (⟨"VeilMintModel", "h2", "()V"⟩, 96) := ⟨⟨by decide +kernel, by decide +kernel⟩, lw_t6 (List.mem_of_getElem? (i := 29) rfl), lw_t8 (List.mem_of_getElem? (i := 69) rfl), lw_t8 (List.mem_of_getElem? (i := 70) rfl)⟩
theorem lw_p51 : lw_okq (⟨"VeilMintModel", "pads", "(II)V"⟩, 96) := ⟨⟨by decide +kernel, by decide +kernel⟩, lw_t6 (List.mem_of_getElem? (i := 29) rfl), lw_t8 (List.mem_of_getElem? (i := 73) rfl), lw_t8 (List.mem_of_getElem? (i := 74) rfl)⟩
theorem lw_p52 : lw_okq (⟨"VeilMintModel", "block", "(I)V"⟩, 96) := ⟨⟨by decide +kernel, by decide +kernel⟩, lw_t6 (List.mem_of_getElem? (i := 29) rfl), lw_t8 (List.mem_of_getElem? (i := 80) rfl), lw_t8 (List.mem_of_getElem? (i := 81) rfl)⟩
theorem lw_p53 : lw_okq (⟨"VeilMintModel", "keyTwo", "(I)I"⟩, 96) := ⟨⟨by decide +kernel, by decide +kernel⟩, lw_t6 (List.mem_of_getElem? (i := 29) rfl), lw_t8 (List.mem_of_getElem? (i := 89) rfl), lw_t8 (List.mem_of_getElem? (i := 90) rfl)⟩
theorem lw_p54 : lw_okq (⟨"VeilMintModel", "noKey", "(I)Z"⟩, 96) := ⟨⟨by decide +kernel, by decide +kernel⟩, lw_t6 (List.mem_of_getElem? (i := 29) rfl), lw_t8 (List.mem_of_getElem? (i := 98) rfl), lw_t8 (List.mem_of_getElem? (i := 99) rfl)⟩
theorem lw_p55 : lw_okq (⟨"VeilMintModel", "blindsOne", "(I)Z"⟩, 96) := ⟨⟨by decide +kernel, by decide +kernel⟩, lw_t6 (List.mem_of_getElem? (i := 29) rfl), lw_t8 (List.mem_of_getElem? (i := 114) rfl), lw_t8 (List.mem_of_getElem? (i := 115) rfl)⟩
theorem lw_p56 : lw_okq (⟨"VeilMintModel", "toPoint", "([BIILVeilMintModel$Spot;)V"⟩, 96) := ⟨⟨by decide +kernel, by decide +kernel⟩, lw_t6 (List.mem_of_getElem? (i := 29) rfl), lw_t8 (List.mem_of_getElem? (i := 118) rfl), lw_t8 (List.mem_of_getElem? (i := 119) rfl)⟩
theorem lw_p57 : lw_okq (⟨"VeilMintModel", "tags", "(Ljava/lang/String;)V"⟩, 96) := ⟨⟨by decide +kernel, by decide +kernel⟩, lw_t6 (List.mem_of_getElem? (i := 29) rfl), lw_t8 (List.mem_of_getElem? (i := 123) rfl), lw_t8 (List.mem_of_getElem? (i := 124) rfl)⟩
theorem lw_p58 : lw_okq (⟨"VeilMintModel", "word", "(Ljava/lang/String;)V"⟩, 96) := ⟨⟨by decide +kernel, by decide +kernel⟩, lw_t6 (List.mem_of_getElem? (i := 29) rfl), lw_t8 (List.mem_of_getElem? (i := 127) rfl), lw_t8 (List.mem_of_getElem? (i := 128) rfl)⟩
theorem lw_p59 : lw_okq (⟨"VeilMintModel", "context", "()V"⟩, 96) := ⟨⟨by decide +kernel, by decide +kernel⟩, lw_t6 (List.mem_of_getElem? (i := 29) rfl), lw_t8 (List.mem_of_getElem? (i := 133) rfl), lw_t8 (List.mem_of_getElem? (i := 134) rfl)⟩
theorem lw_p60 : lw_okq (⟨"VeilMintModel", "expands", "(I)V"⟩, 96) := ⟨⟨by decide +kernel, by decide +kernel⟩, lw_t6 (List.mem_of_getElem? (i := 29) rfl), lw_t8 (List.mem_of_getElem? (i := 139) rfl), lw_t8 (List.mem_of_getElem? (i := 140) rfl)⟩
theorem lw_p61 : lw_okq (⟨"VeilMintModel", "endsTag", "()V"⟩, 96) := ⟨⟨by decide +kernel, by decide +kernel⟩, lw_t6 (List.mem_of_getElem? (i := 29) rfl), lw_t8 (List.mem_of_getElem? (i := 143) rfl), lw_t8 (List.mem_of_getElem? (i := 144) rfl)⟩
theorem lw_p62 : lw_okq (⟨"VeilMintModel", "h3", "()V"⟩, 96) := ⟨⟨by decide +kernel, by decide +kernel⟩, lw_t6 (List.mem_of_getElem? (i := 29) rfl), lw_t8 (List.mem_of_getElem? (i := 147) rfl), lw_t8 (List.mem_of_getElem? (i := 148) rfl)⟩
theorem lw_p63 : lw_okq (⟨"VeilMintModel", "wideBlock", "(I)V"⟩, 96) := ⟨⟨by decide +kernel, by decide +kernel⟩, lw_t6 (List.mem_of_getElem? (i := 29) rfl), lw_t8 (List.mem_of_getElem? (i := 153) rfl), lw_t8 (List.mem_of_getElem? (i := 154) rfl)⟩
def lw_privs_4 : List (MethodName × Nat) := [(⟨"VeilMintModel", "say", "(I)V"⟩, 96), (⟨"VeilMintModel", "both", "(I)V"⟩, 96), (⟨"VeilMintModel", "h2", "()V"⟩, 96), (⟨"VeilMintModel", "pads", "(II)V"⟩, 96), (⟨"VeilMintModel", "block", "(I)V"⟩, 96), (⟨"VeilMintModel", "keyTwo", "(I)I"⟩, 96), (⟨"VeilMintModel", "noKey", "(I)Z"⟩, 96), (⟨"VeilMintModel", "blindsOne", "(I)Z"⟩, 96), (⟨"VeilMintModel", "toPoint", "([BIILVeilMintModel$Spot;)V"⟩, 96), (⟨"VeilMintModel", "tags", "(Ljava/lang/String;)V"⟩, 96), (⟨"VeilMintModel", "word", "(Ljava/lang/String;)V"⟩, 96), (⟨"VeilMintModel", "context", "()V"⟩, 96), (⟨"VeilMintModel", "expands", "(I)V"⟩, 96), (⟨"VeilMintModel", "endsTag", "()V"⟩, 96), (⟨"VeilMintModel", "h3", "()V"⟩, 96), (⟨"VeilMintModel", "wideBlock", "(I)V"⟩, 96)]
theorem lw_r4 : ∀ q ∈ lw_privs_4, lw_okq q := List.forall_mem_cons.mpr ⟨lw_p48, List.forall_mem_cons.mpr ⟨lw_p49, List.forall_mem_cons.mpr ⟨lw_p50, List.forall_mem_cons.mpr ⟨lw_p51, List.forall_mem_cons.mpr ⟨lw_p52, List.forall_mem_cons.mpr ⟨lw_p53, List.forall_mem_cons.mpr ⟨lw_p54, List.forall_mem_cons.mpr ⟨lw_p55, List.forall_mem_cons.mpr ⟨lw_p56, List.forall_mem_cons.mpr ⟨lw_p57, List.forall_mem_cons.mpr ⟨lw_p58, List.forall_mem_cons.mpr ⟨lw_p59, List.forall_mem_cons.mpr ⟨lw_p60, List.forall_mem_cons.mpr ⟨lw_p61, List.forall_mem_cons.mpr ⟨lw_p62, List.forall_mem_cons.mpr ⟨lw_p63, fun _ h => absurd h List.not_mem_nil⟩⟩⟩⟩⟩⟩⟩⟩⟩⟩⟩⟩⟩⟩⟩⟩
theorem lw_p64 : lw_okq (⟨"VeilMintModel", "field", "(LVeilMintModel$Mod;I[I)V"⟩, 96) := ⟨⟨by decide +kernel, by decide +kernel⟩, lw_t6 (List.mem_of_getElem? (i := 29) rfl), lw_t8 (List.mem_of_getElem? (i := 163) rfl), lw_t8 (List.mem_of_getElem? (i := 164) rfl)⟩
theorem lw_p65 : lw_okq (⟨"VeilMintModel", "map", "([ILVeilMintModel$Spot;)V"⟩, 96) := ⟨⟨by decide +kernel, by decide +kernel⟩, lw_t6 (List.mem_of_getElem? (i := 29) rfl), lw_t8 (List.mem_of_getElem? (i := 167) rfl), lw_t8 (List.mem_of_getElem? (i := 168) rfl)⟩
theorem lw_p66 : lw_okq (⟨"VeilMintModel", "curve", "([I[I)V"⟩, 96) := ⟨⟨by decide +kernel, by decide +kernel⟩, lw_t6 (List.mem_of_getElem? (i := 29) rfl), lw_t8 (List.mem_of_getElem? (i := 173) rfl), lw_t8 (List.mem_of_getElem? (i := 174) rfl)⟩
theorem lw_p67 : lw_okq (⟨"VeilMintModel", "root", "([I[I)Z"⟩, 96) := ⟨⟨by decide +kernel, by decide +kernel⟩, lw_t6 (List.mem_of_getElem? (i := 29) rfl), lw_t8 (List.mem_of_getElem? (i := 177) rfl), lw_t8 (List.mem_of_getElem? (i := 178) rfl)⟩
theorem lw_p68 : lw_okq (⟨"VeilMintModel", "power", "(LVeilMintModel$Mod;[I[II[I)V"⟩, 96) := ⟨⟨by decide +kernel, by decide +kernel⟩, lw_t6 (List.mem_of_getElem? (i := 29) rfl), lw_t8 (List.mem_of_getElem? (i := 181) rfl), lw_t8 (List.mem_of_getElem? (i := 182) rfl)⟩
theorem lw_p69 : lw_okq (⟨"VeilMintModel", "join", "(LVeilMintModel$Spot;LVeilMintModel$Spot;LVeilMintModel$Spot;)V"⟩, 96) := ⟨⟨by decide +kernel, by decide +kernel⟩, lw_t6 (List.mem_of_getElem? (i := 29) rfl), lw_t8 (List.mem_of_getElem? (i := 188) rfl), lw_t8 (List.mem_of_getElem? (i := 189) rfl)⟩
theorem lw_p70 : lw_okq (⟨"VeilMintModel", "blindsTwo", "(II)Z"⟩, 96) := ⟨⟨by decide +kernel, by decide +kernel⟩, lw_t6 (List.mem_of_getElem? (i := 29) rfl), lw_t8 (List.mem_of_getElem? (i := 192) rfl), lw_t8 (List.mem_of_getElem? (i := 193) rfl)⟩
theorem lw_p71 : lw_okq (⟨"VeilMintModel", "encodes", "(I[BI[BI[I)V"⟩, 96) := ⟨⟨by decide +kernel, by decide +kernel⟩, lw_t6 (List.mem_of_getElem? (i := 29) rfl), lw_t8 (List.mem_of_getElem? (i := 196) rfl), lw_t8 (List.mem_of_getElem? (i := 197) rfl)⟩
theorem lw_p72 : lw_okq (⟨"VeilMintModel", "salted", "([BI[BII)V"⟩, 96) := ⟨⟨by decide +kernel, by decide +kernel⟩, lw_t6 (List.mem_of_getElem? (i := 29) rfl), lw_t8 (List.mem_of_getElem? (i := 207) rfl), lw_t8 (List.mem_of_getElem? (i := 208) rfl)⟩
theorem lw_p73 : lw_okq (⟨"VeilMintModel", "masks", "([BII)V"⟩, 96) := ⟨⟨by decide +kernel, by decide +kernel⟩, lw_t6 (List.mem_of_getElem? (i := 29) rfl), lw_t8 (List.mem_of_getElem? (i := 211) rfl), lw_t8 (List.mem_of_getElem? (i := 212) rfl)⟩
theorem lw_p74 : lw_okq (⟨"VeilMintModel", "byE", "(I[I[I)V"⟩, 96) := ⟨⟨by decide +kernel, by decide +kernel⟩, lw_t6 (List.mem_of_getElem? (i := 29) rfl), lw_t8 (List.mem_of_getElem? (i := 218) rfl), lw_t8 (List.mem_of_getElem? (i := 219) rfl)⟩
theorem lw_p75 : lw_okq (⟨"VeilMintModel", "isType", "(I)Z"⟩, 96) := ⟨⟨by decide +kernel, by decide +kernel⟩, lw_t6 (List.mem_of_getElem? (i := 29) rfl), lw_t8 (List.mem_of_getElem? (i := 226) rfl), lw_t8 (List.mem_of_getElem? (i := 227) rfl)⟩
theorem lw_p76 : lw_okq (⟨"VeilMintModel", "keyOf", "(II)I"⟩, 96) := ⟨⟨by decide +kernel, by decide +kernel⟩, lw_t6 (List.mem_of_getElem? (i := 29) rfl), lw_t8 (List.mem_of_getElem? (i := 230) rfl), lw_t8 (List.mem_of_getElem? (i := 231) rfl)⟩
theorem lw_p77 : lw_okq (⟨"VeilMintModel", "gives", "(II)I"⟩, 96) := ⟨⟨by decide +kernel, by decide +kernel⟩, lw_t6 (List.mem_of_getElem? (i := 29) rfl), lw_t8 (List.mem_of_getElem? (i := 234) rfl), lw_t8 (List.mem_of_getElem? (i := 235) rfl)⟩
theorem lw_p78 : lw_okq (⟨"VeilMintModel", "element", "([BILVeilMintModel$Spot;)Z"⟩, 96) := ⟨⟨by decide +kernel, by decide +kernel⟩, lw_t6 (List.mem_of_getElem? (i := 29) rfl), lw_t8 (List.mem_of_getElem? (i := 238) rfl), lw_t8 (List.mem_of_getElem? (i := 239) rfl)⟩
theorem lw_p79 : lw_okq (⟨"VeilMintModel", "proves", "(II[I)Z"⟩, 96) := ⟨⟨by decide +kernel, by decide +kernel⟩, lw_t6 (List.mem_of_getElem? (i := 29) rfl), lw_t9 (List.mem_of_getElem? (i := 2) rfl), lw_t9 (List.mem_of_getElem? (i := 3) rfl)⟩
def lw_privs_5 : List (MethodName × Nat) := [(⟨"VeilMintModel", "field", "(LVeilMintModel$Mod;I[I)V"⟩, 96), (⟨"VeilMintModel", "map", "([ILVeilMintModel$Spot;)V"⟩, 96), (⟨"VeilMintModel", "curve", "([I[I)V"⟩, 96), (⟨"VeilMintModel", "root", "([I[I)Z"⟩, 96), (⟨"VeilMintModel", "power", "(LVeilMintModel$Mod;[I[II[I)V"⟩, 96), (⟨"VeilMintModel", "join", "(LVeilMintModel$Spot;LVeilMintModel$Spot;LVeilMintModel$Spot;)V"⟩, 96), (⟨"VeilMintModel", "blindsTwo", "(II)Z"⟩, 96), (⟨"VeilMintModel", "encodes", "(I[BI[BI[I)V"⟩, 96), (⟨"VeilMintModel", "salted", "([BI[BII)V"⟩, 96), (⟨"VeilMintModel", "masks", "([BII)V"⟩, 96), (⟨"VeilMintModel", "byE", "(I[I[I)V"⟩, 96), (⟨"VeilMintModel", "isType", "(I)Z"⟩, 96), (⟨"VeilMintModel", "keyOf", "(II)I"⟩, 96), (⟨"VeilMintModel", "gives", "(II)I"⟩, 96), (⟨"VeilMintModel", "element", "([BILVeilMintModel$Spot;)Z"⟩, 96), (⟨"VeilMintModel", "proves", "(II[I)Z"⟩, 96)]
theorem lw_r5 : ∀ q ∈ lw_privs_5, lw_okq q := List.forall_mem_cons.mpr ⟨lw_p64, List.forall_mem_cons.mpr ⟨lw_p65, List.forall_mem_cons.mpr ⟨lw_p66, List.forall_mem_cons.mpr ⟨lw_p67, List.forall_mem_cons.mpr ⟨lw_p68, List.forall_mem_cons.mpr ⟨lw_p69, List.forall_mem_cons.mpr ⟨lw_p70, List.forall_mem_cons.mpr ⟨lw_p71, List.forall_mem_cons.mpr ⟨lw_p72, List.forall_mem_cons.mpr ⟨lw_p73, List.forall_mem_cons.mpr ⟨lw_p74, List.forall_mem_cons.mpr ⟨lw_p75, List.forall_mem_cons.mpr ⟨lw_p76, List.forall_mem_cons.mpr ⟨lw_p77, List.forall_mem_cons.mpr ⟨lw_p78, List.forall_mem_cons.mpr ⟨lw_p79, fun _ h => absurd h List.not_mem_nil⟩⟩⟩⟩⟩⟩⟩⟩⟩⟩⟩⟩⟩⟩⟩⟩
theorem lw_p80 : lw_okq (⟨"VeilMintModel", "composes", "(ILVeilMintModel$Spot;)V"⟩, 96) := ⟨⟨by decide +kernel, by decide +kernel⟩, lw_t6 (List.mem_of_getElem? (i := 29) rfl), lw_t9 (List.mem_of_getElem? (i := 6) rfl), lw_t9 (List.mem_of_getElem? (i := 7) rfl)⟩
theorem lw_p81 : lw_okq (⟨"VeilMintModel", "lays", "([BII)V"⟩, 96) := ⟨⟨by decide +kernel, by decide +kernel⟩, lw_t6 (List.mem_of_getElem? (i := 29) rfl), lw_t9 (List.mem_of_getElem? (i := 11) rfl), lw_t9 (List.mem_of_getElem? (i := 12) rfl)⟩
theorem lw_p82 : lw_okq (⟨"VeilMintModel", "laysSpot", "(LVeilMintModel$Spot;)V"⟩, 96) := ⟨⟨by decide +kernel, by decide +kernel⟩, lw_t6 (List.mem_of_getElem? (i := 29) rfl), lw_t9 (List.mem_of_getElem? (i := 15) rfl), lw_t9 (List.mem_of_getElem? (i := 16) rfl)⟩
theorem lw_p83 : lw_okq (⟨"VeilMintModel", "laysWord", "(Ljava/lang/String;)V"⟩, 96) := ⟨⟨by decide +kernel, by decide +kernel⟩, lw_t6 (List.mem_of_getElem? (i := 29) rfl), lw_t9 (List.mem_of_getElem? (i := 20) rfl), lw_t9 (List.mem_of_getElem? (i := 21) rfl)⟩
theorem lw_p84 : lw_okq (⟨"VeilMintModel", "toScalar", "([I)V"⟩, 96) := ⟨⟨by decide +kernel, by decide +kernel⟩, lw_t6 (List.mem_of_getElem? (i := 29) rfl), lw_t9 (List.mem_of_getElem? (i := 24) rfl), lw_t9 (List.mem_of_getElem? (i := 25) rfl)⟩
theorem lw_p85 : lw_okq (⟨"VeilMintModel", "challenges", "(LVeilMintModel$Spot;[I)Z"⟩, 96) := ⟨⟨by decide +kernel, by decide +kernel⟩, lw_t6 (List.mem_of_getElem? (i := 29) rfl), lw_t9 (List.mem_of_getElem? (i := 29) rfl), lw_t9 (List.mem_of_getElem? (i := 30) rfl)⟩
theorem lw_p86 : lw_okq (⟨"VeilMintModel", "signs", "(I)I"⟩, 96) := ⟨⟨by decide +kernel, by decide +kernel⟩, lw_t6 (List.mem_of_getElem? (i := 29) rfl), lw_t9 (List.mem_of_getElem? (i := 34) rfl), lw_t9 (List.mem_of_getElem? (i := 35) rfl)⟩
theorem lw_p87 : lw_okq (⟨"VeilMintModel", "isAsking", "(I)Z"⟩, 96) := ⟨⟨by decide +kernel, by decide +kernel⟩, lw_t6 (List.mem_of_getElem? (i := 29) rfl), lw_t9 (List.mem_of_getElem? (i := 46) rfl), lw_t9 (List.mem_of_getElem? (i := 47) rfl)⟩
theorem lw_p88 : lw_okq (⟨"VeilMintModel", "ends", "(III)I"⟩, 96) := ⟨⟨by decide +kernel, by decide +kernel⟩, lw_t6 (List.mem_of_getElem? (i := 29) rfl), lw_t9 (List.mem_of_getElem? (i := 50) rfl), lw_t9 (List.mem_of_getElem? (i := 51) rfl)⟩
theorem lw_p89 : lw_okq (⟨"VeilMintModel", "isProved", "(II)Z"⟩, 96) := ⟨⟨by decide +kernel, by decide +kernel⟩, lw_t6 (List.mem_of_getElem? (i := 29) rfl), lw_t9 (List.mem_of_getElem? (i := 54) rfl), lw_t9 (List.mem_of_getElem? (i := 55) rfl)⟩
theorem lw_p90 : lw_okq (⟨"VeilMintModel", "output", "([BILVeilMintModel$Spot;)V"⟩, 96) := ⟨⟨by decide +kernel, by decide +kernel⟩, lw_t6 (List.mem_of_getElem? (i := 29) rfl), lw_t9 (List.mem_of_getElem? (i := 58) rfl), lw_t9 (List.mem_of_getElem? (i := 59) rfl)⟩
theorem lw_p91 : lw_okq (⟨"VeilMintModel", "endsTwo", "(II)I"⟩, 96) := ⟨⟨by decide +kernel, by decide +kernel⟩, lw_t6 (List.mem_of_getElem? (i := 29) rfl), lw_t9 (List.mem_of_getElem? (i := 63) rfl), lw_t9 (List.mem_of_getElem? (i := 64) rfl)⟩
theorem lw_p92 : lw_okq (⟨"VeilMintModel", "isSigned", "(I[BI[I)Z"⟩, 96) := ⟨⟨by decide +kernel, by decide +kernel⟩, lw_t6 (List.mem_of_getElem? (i := 29) rfl), lw_t9 (List.mem_of_getElem? (i := 67) rfl), lw_t9 (List.mem_of_getElem? (i := 68) rfl)⟩
theorem lw_p93 : lw_okq (⟨"VeilMintModel", "isRight", "(I)Z"⟩, 96) := ⟨⟨by decide +kernel, by decide +kernel⟩, lw_t6 (List.mem_of_getElem? (i := 29) rfl), lw_t9 (List.mem_of_getElem? (i := 79) rfl), lw_t9 (List.mem_of_getElem? (i := 80) rfl)⟩
theorem lw_p94 : lw_okq (⟨"VeilMintModel", "isFree", "(I)Z"⟩, 96) := ⟨⟨by decide +kernel, by decide +kernel⟩, lw_t6 (List.mem_of_getElem? (i := 29) rfl), lw_t9 (List.mem_of_getElem? (i := 84) rfl), lw_t9 (List.mem_of_getElem? (i := 85) rfl)⟩
theorem lw_p95 : lw_okq (⟨"VeilMintModel", "isIn", "(I)Z"⟩, 96) := ⟨⟨by decide +kernel, by decide +kernel⟩, lw_t6 (List.mem_of_getElem? (i := 29) rfl), lw_t9 (List.mem_of_getElem? (i := 91) rfl), lw_t9 (List.mem_of_getElem? (i := 92) rfl)⟩
def lw_privs_6 : List (MethodName × Nat) := [(⟨"VeilMintModel", "composes", "(ILVeilMintModel$Spot;)V"⟩, 96), (⟨"VeilMintModel", "lays", "([BII)V"⟩, 96), (⟨"VeilMintModel", "laysSpot", "(LVeilMintModel$Spot;)V"⟩, 96), (⟨"VeilMintModel", "laysWord", "(Ljava/lang/String;)V"⟩, 96), (⟨"VeilMintModel", "toScalar", "([I)V"⟩, 96), (⟨"VeilMintModel", "challenges", "(LVeilMintModel$Spot;[I)Z"⟩, 96), (⟨"VeilMintModel", "signs", "(I)I"⟩, 96), (⟨"VeilMintModel", "isAsking", "(I)Z"⟩, 96), (⟨"VeilMintModel", "ends", "(III)I"⟩, 96), (⟨"VeilMintModel", "isProved", "(II)Z"⟩, 96), (⟨"VeilMintModel", "output", "([BILVeilMintModel$Spot;)V"⟩, 96), (⟨"VeilMintModel", "endsTwo", "(II)I"⟩, 96), (⟨"VeilMintModel", "isSigned", "(I[BI[I)Z"⟩, 96), (⟨"VeilMintModel", "isRight", "(I)Z"⟩, 96), (⟨"VeilMintModel", "isFree", "(I)Z"⟩, 96), (⟨"VeilMintModel", "isIn", "(I)Z"⟩, 96)]
theorem lw_r6 : ∀ q ∈ lw_privs_6, lw_okq q := List.forall_mem_cons.mpr ⟨lw_p80, List.forall_mem_cons.mpr ⟨lw_p81, List.forall_mem_cons.mpr ⟨lw_p82, List.forall_mem_cons.mpr ⟨lw_p83, List.forall_mem_cons.mpr ⟨lw_p84, List.forall_mem_cons.mpr ⟨lw_p85, List.forall_mem_cons.mpr ⟨lw_p86, List.forall_mem_cons.mpr ⟨lw_p87, List.forall_mem_cons.mpr ⟨lw_p88, List.forall_mem_cons.mpr ⟨lw_p89, List.forall_mem_cons.mpr ⟨lw_p90, List.forall_mem_cons.mpr ⟨lw_p91, List.forall_mem_cons.mpr ⟨lw_p92, List.forall_mem_cons.mpr ⟨lw_p93, List.forall_mem_cons.mpr ⟨lw_p94, List.forall_mem_cons.mpr ⟨lw_p95, fun _ h => absurd h List.not_mem_nil⟩⟩⟩⟩⟩⟩⟩⟩⟩⟩⟩⟩⟩⟩⟩⟩
theorem lw_p96 : lw_okq (⟨"VeilMintModel", "spent", "()I"⟩, 96) := ⟨⟨by decide +kernel, by decide +kernel⟩, lw_t6 (List.mem_of_getElem? (i := 29) rfl), lw_t9 (List.mem_of_getElem? (i := 103) rfl), lw_t9 (List.mem_of_getElem? (i := 104) rfl)⟩
def lw_privs_7 : List (MethodName × Nat) := [(⟨"VeilMintModel", "spent", "()I"⟩, 96)]
theorem lw_r7 : ∀ q ∈ lw_privs_7, lw_okq q := List.forall_mem_cons.mpr ⟨lw_p96, fun _ h => absurd h List.not_mem_nil⟩
def lw_privs : List (MethodName × Nat) := lw_privs_1 ++ (lw_privs_2 ++ (lw_privs_3 ++ (lw_privs_4 ++ (lw_privs_5 ++ (lw_privs_6 ++ (lw_privs_7))))))
def lw_tbl : List Cond := k2_sels lw_privs ++ tables_1
theorem lw_privs_ok : ∀ q ∈ lw_privs, lw_okq q := by
  show ∀ q ∈ lw_privs_1 ++ (lw_privs_2 ++ (lw_privs_3 ++ (lw_privs_4 ++ (lw_privs_5 ++ (lw_privs_6 ++ (lw_privs_7)))))), lw_okq q
  exact List.forall_mem_append.mpr ⟨lw_r1, List.forall_mem_append.mpr ⟨lw_r2, List.forall_mem_append.mpr ⟨lw_r3, List.forall_mem_append.mpr ⟨lw_r4, List.forall_mem_append.mpr ⟨lw_r5, List.forall_mem_append.mpr ⟨lw_r6, lw_r7⟩⟩⟩⟩⟩⟩
-- ===== ONE list of words for every method: the tables' words that hold all through a run =====
def lw_all : List Cond := lw_tbl.filter goodWord
/-- a word of the tables by its place: claim/WORDS.tsv -/
theorem lw_w {w : Cond} (i : Nat) (h : lw_tbl[i]? = some w) (g : goodWord w = true) : w ∈ lw_all := List.mem_filter.mpr ⟨List.mem_of_getElem? h, g⟩
theorem lw_all_tbl {w : Cond} (h : w ∈ lw_all) : w ∈ lw_tbl := (List.mem_filter.mp h).1
theorem lw_self : GoodIn lw_all lw_all := fun w h => ⟨h, good_of_word (List.mem_filter.mp h).2⟩
/-- a class's field words, by their places -/
theorem lw_in (ws : List Cond) (ps : List Nat) (hp : ws = ps.filterMap (fun i => lw_tbl[i]?)) (hg : ws.all goodWord = true) : ∀ w ∈ ws, w ∈ lw_all := by
  intro w h
  have h1 := List.all_eq_true.mp hg w h
  rw [hp] at h
  obtain ⟨i, -, hi⟩ := List.mem_filterMap.mp h
  exact lw_w i hi h1
/-- the words of a contract for the method y with code b, L locals, answer r -/
abbrev ws_ (y : MethodName) (b : ByteArray) (L : Nat) (r : Option FieldType) : List Cond := Cond.code y b L r :: lw_all
theorem lw_meth {y : MethodName} {b : ByteArray} {L : Nat} {r : Option FieldType} (h : Cond.code y b L r ∈ lw_all) : GoodIn lw_all (ws_ y b L r) := by
  intro w hw
  rcases List.mem_cons.mp hw with e | e
  · rw [e]
    exact lw_self _ h
  · exact lw_self _ e
theorem lw_app {a c : List Cond} (ha : ∀ w ∈ a, w ∈ lw_all) (hc : GoodIn lw_all c) : GoodIn lw_all (a ++ c) := by
  intro w hw
  rcases List.mem_append.mp hw with e | e
  · exact lw_self w (ha w e)
  · exact hc w e
/-- what a call through an object asks: cwV n hts (lw_V ..) -/
theorem lw_V {own : String} {idx : Nat} {C : String} {y : MethodName} {b : ByteArray} {L : Nat} {r : Option FieldType} (h1 : Cond.methodLink own idx y ∈ lw_all) (h2 : Cond.instanceMethod y ∈ lw_all) (h3 : Cond.selects C y y ∈ lw_all) (h4 : Cond.initialized C ∈ lw_all) (h5 : Cond.code y b L r ∈ lw_all) : GoodIn lw_all (wsV own idx C y (ws_ y b L r)) := by
  refine lw_app ?_ (lw_meth h5)
  intro w hw
  simp only [List.mem_cons, List.not_mem_nil, or_false] at hw
  rcases hw with e | e | e | e
  · rw [e]; exact h1
  · rw [e]; exact h2
  · rw [e]; exact h3
  · rw [e]; exact h4
/-- what a static call asks: va_cwS n hts (lw_S ..) -/
theorem lw_S {own : String} {idx : Nat} {y : MethodName} {b : ByteArray} {L : Nat} {r : Option FieldType} (h1 : Cond.methodLink own idx y ∈ lw_all) (h2 : Cond.static y ∈ lw_all) (h3 : Cond.initialized y.cls ∈ lw_all) (h4 : Cond.code y b L r ∈ lw_all) : GoodIn lw_all (va_wsS own idx y (ws_ y b L r)) := by
  refine lw_app ?_ (lw_meth h4)
  intro w hw
  simp only [List.mem_cons, List.not_mem_nil, or_false] at hw
  rcases hw with e | e | e
  · rw [e]; exact h1
  · rw [e]; exact h2
  · rw [e]; exact h3
/-- the words of a contract for a method WITH HANDLERS (hh: its table) -/
abbrev wsW_ (y : MethodName) (b : ByteArray) (L : Nat) (r : Option FieldType) (hh : List (Nat × Nat × Nat × Nat)) : List Cond := Cond.codeWith y b L r hh :: lw_all
theorem lw_methW {y : MethodName} {b : ByteArray} {L : Nat} {r : Option FieldType} {hh : List (Nat × Nat × Nat × Nat)} (h : Cond.codeWith y b L r hh ∈ lw_all) : GoodIn lw_all (wsW_ y b L r hh) := by
  intro w hw
  rcases List.mem_cons.mp hw with e | e
  · rw [e]
    exact lw_self _ h
  · exact lw_self _ e
/-- any list of words by their places (lw_in), good -/
theorem lw_good {ws : List Cond} (h : ∀ w ∈ ws, w ∈ lw_all) : GoodIn lw_all ws := fun w hw => lw_self w (h w hw)
/-- what a call of a method with handlers asks: vx_cwVW n hts (lw_VW ..), vx_cwSW n hts (lw_SW ..) -/
theorem lw_VW {own : String} {idx : Nat} {C : String} {y : MethodName} {b : ByteArray} {L : Nat} {r : Option FieldType} {hh : List (Nat × Nat × Nat × Nat)} (h1 : Cond.methodLink own idx y ∈ lw_all) (h2 : Cond.instanceMethod y ∈ lw_all) (h3 : Cond.selects C y y ∈ lw_all) (h4 : Cond.initialized C ∈ lw_all) (h5 : Cond.codeWith y b L r hh ∈ lw_all) : GoodIn lw_all (wsV own idx C y (wsW_ y b L r hh)) := by
  refine lw_app ?_ (lw_methW h5)
  intro w hw
  simp only [List.mem_cons, List.not_mem_nil, or_false] at hw
  rcases hw with e | e | e | e
  · rw [e]; exact h1
  · rw [e]; exact h2
  · rw [e]; exact h3
  · rw [e]; exact h4
theorem lw_SW {own : String} {idx : Nat} {y : MethodName} {b : ByteArray} {L : Nat} {r : Option FieldType} {hh : List (Nat × Nat × Nat × Nat)} (h1 : Cond.methodLink own idx y ∈ lw_all) (h2 : Cond.static y ∈ lw_all) (h3 : Cond.initialized y.cls ∈ lw_all) (h4 : Cond.codeWith y b L r hh ∈ lw_all) : GoodIn lw_all (va_wsS own idx y (wsW_ y b L r hh)) := by
  refine lw_app ?_ (lw_methW h4)
  intro w hw
  simp only [List.mem_cons, List.not_mem_nil, or_false] at hw
  rcases hw with e | e | e
  · rw [e]; exact h1
  · rw [e]; exact h2
  · rw [e]; exact h3
/-- a word by its place in its run of the tables -/
theorem lw_at {r : List Cond} (hr : ∀ w ∈ r, w ∈ lw_tbl) {w : Cond} (i : Nat) (h : r[i]? = some w) : w ∈ lw_tbl := hr w (List.mem_of_getElem? h)
theorem lw_g {w : Cond} (h : w ∈ lw_tbl) (g : goodWord w = true) : w ∈ lw_all := List.mem_filter.mpr ⟨h, g⟩
theorem lw_ms : ∀ w ∈ k2_sels lw_privs, w ∈ lw_tbl := fun w h => show w ∈ k2_sels lw_privs ++ tables_1 from List.mem_append_left _ h
theorem lw_m1 : ∀ w ∈ tables_1_1, w ∈ lw_tbl := fun w h => show w ∈ k2_sels lw_privs ++ tables_1 from List.mem_append_right (k2_sels lw_privs) (show w ∈ tables_1 from List.mem_append_left _ h)
theorem lw_m2 : ∀ w ∈ tables_1_2, w ∈ lw_tbl := fun w h => show w ∈ k2_sels lw_privs ++ tables_1 from List.mem_append_right (k2_sels lw_privs) (show w ∈ tables_1 from List.mem_append_right _ (List.mem_append_left _ h))
theorem lw_m3 : ∀ w ∈ tables_1_3, w ∈ lw_tbl := fun w h => show w ∈ k2_sels lw_privs ++ tables_1 from List.mem_append_right (k2_sels lw_privs) (show w ∈ tables_1 from List.mem_append_right _ (List.mem_append_right _ (List.mem_append_left _ h)))
theorem lw_m4 : ∀ w ∈ tables_1_4, w ∈ lw_tbl := fun w h => show w ∈ k2_sels lw_privs ++ tables_1 from List.mem_append_right (k2_sels lw_privs) (show w ∈ tables_1 from List.mem_append_right _ (List.mem_append_right _ (List.mem_append_right _ (List.mem_append_left _ h))))
theorem lw_m5 : ∀ w ∈ tables_1_5, w ∈ lw_tbl := fun w h => show w ∈ k2_sels lw_privs ++ tables_1 from List.mem_append_right (k2_sels lw_privs) (show w ∈ tables_1 from List.mem_append_right _ (List.mem_append_right _ (List.mem_append_right _ (List.mem_append_right _ (List.mem_append_left _ h)))))
theorem lw_m6 : ∀ w ∈ tables_1_6, w ∈ lw_tbl := fun w h => show w ∈ k2_sels lw_privs ++ tables_1 from List.mem_append_right (k2_sels lw_privs) (show w ∈ tables_1 from List.mem_append_right _ (List.mem_append_right _ (List.mem_append_right _ (List.mem_append_right _ (List.mem_append_right _ (List.mem_append_left _ h))))))
theorem lw_m7 : ∀ w ∈ tables_1_7, w ∈ lw_tbl := fun w h => show w ∈ k2_sels lw_privs ++ tables_1 from List.mem_append_right (k2_sels lw_privs) (show w ∈ tables_1 from List.mem_append_right _ (List.mem_append_right _ (List.mem_append_right _ (List.mem_append_right _ (List.mem_append_right _ (List.mem_append_right _ (List.mem_append_left _ h)))))))
theorem lw_m8 : ∀ w ∈ tables_1_8, w ∈ lw_tbl := fun w h => show w ∈ k2_sels lw_privs ++ tables_1 from List.mem_append_right (k2_sels lw_privs) (show w ∈ tables_1 from List.mem_append_right _ (List.mem_append_right _ (List.mem_append_right _ (List.mem_append_right _ (List.mem_append_right _ (List.mem_append_right _ (List.mem_append_right _ (List.mem_append_left _ h))))))))
theorem lw_m9 : ∀ w ∈ tables_1_9, w ∈ lw_tbl := fun w h => show w ∈ k2_sels lw_privs ++ tables_1 from List.mem_append_right (k2_sels lw_privs) (show w ∈ tables_1 from List.mem_append_right _ (List.mem_append_right _ (List.mem_append_right _ (List.mem_append_right _ (List.mem_append_right _ (List.mem_append_right _ (List.mem_append_right _ (List.mem_append_right _ h))))))))
theorem qs0 : (Cond.selects "java/lang/Throwable" ⟨"java/lang/Throwable", "fillInStackTrace", "(I)Ljava/lang/Throwable;"⟩ ⟨"java/lang/Throwable", "fillInStackTrace", "(I)Ljava/lang/Throwable;"⟩) ∈ lw_all := lw_g (lw_at lw_ms 0 rfl) rfl
theorem qs1 : (Cond.selects "VeilMint" ⟨"VeilMint", "four", "(I)V"⟩ ⟨"VeilMint", "four", "(I)V"⟩) ∈ lw_all := lw_g (lw_at lw_ms 1 rfl) rfl
theorem qs2 : (Cond.selects "VeilMint" ⟨"VeilMint", "use", "()I"⟩ ⟨"VeilMint", "use", "()I"⟩) ∈ lw_all := lw_g (lw_at lw_ms 2 rfl) rfl
theorem qs3 : (Cond.selects "VeilMint$Oblivious" ⟨"VeilMint$Oblivious", "isSecret", "([BI[I)Z"⟩ ⟨"VeilMint$Oblivious", "isSecret", "([BI[I)Z"⟩) ∈ lw_all := lw_g (lw_at lw_ms 3 rfl) rfl
theorem qs4 : (Cond.selects "VeilMint$Modulus" ⟨"VeilMint$Modulus", "half", "([I)V"⟩ ⟨"VeilMint$Modulus", "half", "([I)V"⟩) ∈ lw_all := lw_g (lw_at lw_ms 4 rfl) rfl
theorem qs5 : (Cond.selects "VeilMint" ⟨"VeilMint", "told", "(I)I"⟩ ⟨"VeilMint", "told", "(I)I"⟩) ∈ lw_all := lw_g (lw_at lw_ms 5 rfl) rfl
theorem qs6 : (Cond.selects "VeilMint$Oblivious" ⟨"VeilMint$Oblivious", "group", "([BILVeilMint$Point;)V"⟩ ⟨"VeilMint$Oblivious", "group", "([BILVeilMint$Point;)V"⟩) ∈ lw_all := lw_g (lw_at lw_ms 6 rfl) rfl
theorem qs7 : (Cond.selects "VeilMint$Curve" ⟨"VeilMint$Curve", "tag", "(Ljava/lang/String;I)V"⟩ ⟨"VeilMint$Curve", "tag", "(Ljava/lang/String;I)V"⟩) ∈ lw_all := lw_g (lw_at lw_ms 7 rfl) rfl
theorem qs8 : (Cond.selects "VeilMint$Curve" ⟨"VeilMint$Curve", "map", "(ILVeilMint$Point;)V"⟩ ⟨"VeilMint$Curve", "map", "(ILVeilMint$Point;)V"⟩) ∈ lw_all := lw_g (lw_at lw_ms 8 rfl) rfl
theorem qs9 : (Cond.selects "VeilMint$Curve" ⟨"VeilMint$Curve", "firstX", "([I[I)V"⟩ ⟨"VeilMint$Curve", "firstX", "([I[I)V"⟩) ∈ lw_all := lw_g (lw_at lw_ms 9 rfl) rfl
theorem qs10 : (Cond.selects "VeilMint$Curve" ⟨"VeilMint$Curve", "negateInto", "([I[I)V"⟩ ⟨"VeilMint$Curve", "negateInto", "([I[I)V"⟩) ∈ lw_all := lw_g (lw_at lw_ms 10 rfl) rfl
theorem qs11 : (Cond.selects "VeilMint$Curve" ⟨"VeilMint$Curve", "square", "([I[I)V"⟩ ⟨"VeilMint$Curve", "square", "([I[I)V"⟩) ∈ lw_all := lw_g (lw_at lw_ms 11 rfl) rfl
theorem qs12 : (Cond.selects "VeilMint$Curve" ⟨"VeilMint$Curve", "negate", "([I)V"⟩ ⟨"VeilMint$Curve", "negate", "([I)V"⟩) ∈ lw_all := lw_g (lw_at lw_ms 12 rfl) rfl
theorem qs13 : (Cond.selects "VeilMint$Oblivious" ⟨"VeilMint$Oblivious", "write", "(LVeilMint$Point;[BI)V"⟩ ⟨"VeilMint$Oblivious", "write", "(LVeilMint$Point;[BI)V"⟩) ∈ lw_all := lw_g (lw_at lw_ms 13 rfl) rfl
theorem qs14 : (Cond.selects "VeilMint$Signing" ⟨"VeilMint$Signing", "encode", "([BI[BI)V"⟩ ⟨"VeilMint$Signing", "encode", "([BI[BI)V"⟩) ∈ lw_all := lw_g (lw_at lw_ms 14 rfl) rfl
theorem qs15 : (Cond.selects "VeilMint$Signing" ⟨"VeilMint$Signing", "length", "()I"⟩ ⟨"VeilMint$Signing", "length", "()I"⟩) ∈ lw_all := lw_g (lw_at lw_ms 15 rfl) rfl
theorem qs16 : (Cond.selects "VeilMint$Signing" ⟨"VeilMint$Signing", "salted", "([BI[BI)[B"⟩ ⟨"VeilMint$Signing", "salted", "([BI[BI)[B"⟩) ∈ lw_all := lw_g (lw_at lw_ms 16 rfl) rfl
theorem qs17 : (Cond.selects "VeilMint$Signing" ⟨"VeilMint$Signing", "mask", "([BI[BI)V"⟩ ⟨"VeilMint$Signing", "mask", "([BI[BI)V"⟩) ∈ lw_all := lw_g (lw_at lw_ms 17 rfl) rfl
theorem qs18 : (Cond.selects "VeilMint" ⟨"VeilMint", "issued", "(IIZ)I"⟩ ⟨"VeilMint", "issued", "(IIZ)I"⟩) ∈ lw_all := lw_g (lw_at lw_ms 18 rfl) rfl
theorem qs19 : (Cond.selects "VeilMint" ⟨"VeilMint", "liveOf", "(II)LVeilMint$Key;"⟩ ⟨"VeilMint", "liveOf", "(II)LVeilMint$Key;"⟩) ∈ lw_all := lw_g (lw_at lw_ms 19 rfl) rfl
theorem qs20 : (Cond.selects "VeilMint$Oblivious" ⟨"VeilMint$Oblivious", "read", "([BILVeilMint$Point;)V"⟩ ⟨"VeilMint$Oblivious", "read", "([BILVeilMint$Point;)V"⟩) ∈ lw_all := lw_g (lw_at lw_ms 20 rfl) rfl
theorem qs21 : (Cond.selects "VeilMint$Oblivious" ⟨"VeilMint$Oblivious", "composites", "([BI[BIIZ)V"⟩ ⟨"VeilMint$Oblivious", "composites", "([BI[BIIZ)V"⟩) ∈ lw_all := lw_g (lw_at lw_ms 21 rfl) rfl
theorem qs22 : (Cond.selects "VeilMint$Oblivious" ⟨"VeilMint$Oblivious", "challenge", "(LVeilMint$Point;LVeilMint$Point;[I)V"⟩ ⟨"VeilMint$Oblivious", "challenge", "(LVeilMint$Point;LVeilMint$Point;[I)V"⟩) ∈ lw_all := lw_g (lw_at lw_ms 22 rfl) rfl
theorem qs23 : (Cond.selects "VeilMint" ⟨"VeilMint", "isId", "(LVeilMint$Key;)Z"⟩ ⟨"VeilMint", "isId", "(LVeilMint$Key;)Z"⟩) ∈ lw_all := lw_g (lw_at lw_ms 23 rfl) rfl
theorem qs24 : (Cond.selects "VeilMint$Oblivious" ⟨"VeilMint$Oblivious", "output", "([BI[BI)V"⟩ ⟨"VeilMint$Oblivious", "output", "([BI[BI)V"⟩) ∈ lw_all := lw_g (lw_at lw_ms 24 rfl) rfl
theorem qs25 : (Cond.selects "VeilMint$Signing" ⟨"VeilMint$Signing", "isCode", "([BI)Z"⟩ ⟨"VeilMint$Signing", "isCode", "([BI)Z"⟩) ∈ lw_all := lw_g (lw_at lw_ms 25 rfl) rfl
theorem qs26 : (Cond.selects "VeilMint$Disk" ⟨"VeilMint$Disk", "isFree", "(I)Z"⟩ ⟨"VeilMint$Disk", "isFree", "(I)Z"⟩) ∈ lw_all := lw_g (lw_at lw_ms 26 rfl) rfl
theorem qs27 : (Cond.selects "VeilMint$Disk" ⟨"VeilMint$Disk", "write", "(I[BI)I"⟩ ⟨"VeilMint$Disk", "write", "(I[BI)I"⟩) ∈ lw_all := lw_g (lw_at lw_ms 27 rfl) rfl
theorem qs28 : (Cond.selects "VeilMint$Disk" ⟨"VeilMint$Disk", "has", "(I[BI)Z"⟩ ⟨"VeilMint$Disk", "has", "(I[BI)Z"⟩) ∈ lw_all := lw_g (lw_at lw_ms 28 rfl) rfl
theorem qs29 : (Cond.selects "VeilMint" ⟨"VeilMint", "keyAt", "(I)LVeilMint$Key;"⟩ ⟨"VeilMint", "keyAt", "(I)LVeilMint$Key;"⟩) ∈ lw_all := lw_g (lw_at lw_ms 29 rfl) rfl
theorem qs30 : (Cond.selects "VeilMint" ⟨"VeilMint", "mustBeOpen", "(I)V"⟩ ⟨"VeilMint", "mustBeOpen", "(I)V"⟩) ∈ lw_all := lw_g (lw_at lw_ms 30 rfl) rfl
theorem qs31 : (Cond.selects "VeilMint" ⟨"VeilMint", "finished", "(III)I"⟩ ⟨"VeilMint", "finished", "(III)I"⟩) ∈ lw_all := lw_g (lw_at lw_ms 31 rfl) rfl
theorem qs32 : (Cond.selects "VeilMintModel" ⟨"VeilMintModel", "used", "()I"⟩ ⟨"VeilMintModel", "used", "()I"⟩) ∈ lw_all := lw_g (lw_at lw_ms 32 rfl) rfl
theorem qs33 : (Cond.selects "VeilMintModel" ⟨"VeilMintModel", "keyOne", "(I)I"⟩ ⟨"VeilMintModel", "keyOne", "(I)I"⟩) ∈ lw_all := lw_g (lw_at lw_ms 33 rfl) rfl
theorem qs34 : (Cond.selects "VeilMintModel" ⟨"VeilMintModel", "multiply", "([ILVeilMintModel$Spot;LVeilMintModel$Spot;)V"⟩ ⟨"VeilMintModel", "multiply", "([ILVeilMintModel$Spot;LVeilMintModel$Spot;)V"⟩) ∈ lw_all := lw_g (lw_at lw_ms 34 rfl) rfl
theorem qs35 : (Cond.selects "VeilMintModel" ⟨"VeilMintModel", "doubles", "()V"⟩ ⟨"VeilMintModel", "doubles", "()V"⟩) ∈ lw_all := lw_g (lw_at lw_ms 35 rfl) rfl
theorem qs36 : (Cond.selects "VeilMintModel" ⟨"VeilMintModel", "times", "(LVeilMintModel$Mod;[I[I[I)V"⟩ ⟨"VeilMintModel", "times", "(LVeilMintModel$Mod;[I[I[I)V"⟩) ∈ lw_all := lw_g (lw_at lw_ms 36 rfl) rfl
theorem qs37 : (Cond.selects "VeilMintModel" ⟨"VeilMintModel", "folds", "([I)V"⟩ ⟨"VeilMintModel", "folds", "([I)V"⟩) ∈ lw_all := lw_g (lw_at lw_ms 37 rfl) rfl
theorem qs38 : (Cond.selects "VeilMintModel" ⟨"VeilMintModel", "folded", "(IJ)V"⟩ ⟨"VeilMintModel", "folded", "(IJ)V"⟩) ∈ lw_all := lw_g (lw_at lw_ms 38 rfl) rfl
theorem qs39 : (Cond.selects "VeilMintModel" ⟨"VeilMintModel", "carried", "([I)J"⟩ ⟨"VeilMintModel", "carried", "([I)J"⟩) ∈ lw_all := lw_g (lw_at lw_ms 39 rfl) rfl
theorem qs40 : (Cond.selects "VeilMintModel" ⟨"VeilMintModel", "rest", "(LVeilMintModel$Mod;I[I)V"⟩ ⟨"VeilMintModel", "rest", "(LVeilMintModel$Mod;I[I)V"⟩) ∈ lw_all := lw_g (lw_at lw_ms 40 rfl) rfl
theorem qs41 : (Cond.selects "VeilMintModel" ⟨"VeilMintModel", "takes", "(LVeilMintModel$Mod;IJ)V"⟩ ⟨"VeilMintModel", "takes", "(LVeilMintModel$Mod;IJ)V"⟩) ∈ lw_all := lw_g (lw_at lw_ms 41 rfl) rfl
theorem qs42 : (Cond.selects "VeilMintModel" ⟨"VeilMintModel", "eight", "([I)V"⟩ ⟨"VeilMintModel", "eight", "([I)V"⟩) ∈ lw_all := lw_g (lw_at lw_ms 42 rfl) rfl
theorem qs43 : (Cond.selects "VeilMintModel" ⟨"VeilMintModel", "steps", "()Z"⟩ ⟨"VeilMintModel", "steps", "()Z"⟩) ∈ lw_all := lw_g (lw_at lw_ms 43 rfl) rfl
theorem qs44 : (Cond.selects "VeilMintModel" ⟨"VeilMintModel", "inverse", "(LVeilMintModel$Mod;[I[I)Z"⟩ ⟨"VeilMintModel", "inverse", "(LVeilMintModel$Mod;[I[I)Z"⟩) ∈ lw_all := lw_g (lw_at lw_ms 44 rfl) rfl
theorem qs45 : (Cond.selects "VeilMintModel" ⟨"VeilMintModel", "comes", "(I)I"⟩ ⟨"VeilMintModel", "comes", "(I)I"⟩) ∈ lw_all := lw_g (lw_at lw_ms 45 rfl) rfl
theorem qs46 : (Cond.selects "VeilMintModel" ⟨"VeilMintModel", "keyId", "(I)V"⟩ ⟨"VeilMintModel", "keyId", "(I)V"⟩) ∈ lw_all := lw_g (lw_at lw_ms 46 rfl) rfl
theorem qs47 : (Cond.selects "VeilMintModel" ⟨"VeilMintModel", "say", "([BII)V"⟩ ⟨"VeilMintModel", "say", "([BII)V"⟩) ∈ lw_all := lw_g (lw_at lw_ms 47 rfl) rfl
theorem qs48 : (Cond.selects "VeilMintModel" ⟨"VeilMintModel", "say", "(I)V"⟩ ⟨"VeilMintModel", "say", "(I)V"⟩) ∈ lw_all := lw_g (lw_at lw_ms 48 rfl) rfl
theorem qs49 : (Cond.selects "VeilMintModel" ⟨"VeilMintModel", "both", "(I)V"⟩ ⟨"VeilMintModel", "both", "(I)V"⟩) ∈ lw_all := lw_g (lw_at lw_ms 49 rfl) rfl
theorem qs50 : (Cond.selects "VeilMintModel" ⟨"VeilMintModel", "h2", "()V"⟩ ⟨"VeilMintModel", "h2", "()V"⟩) ∈ lw_all := lw_g (lw_at lw_ms 50 rfl) rfl
theorem qs51 : (Cond.selects "VeilMintModel" ⟨"VeilMintModel", "pads", "(II)V"⟩ ⟨"VeilMintModel", "pads", "(II)V"⟩) ∈ lw_all := lw_g (lw_at lw_ms 51 rfl) rfl
theorem qs52 : (Cond.selects "VeilMintModel" ⟨"VeilMintModel", "block", "(I)V"⟩ ⟨"VeilMintModel", "block", "(I)V"⟩) ∈ lw_all := lw_g (lw_at lw_ms 52 rfl) rfl
theorem qs53 : (Cond.selects "VeilMintModel" ⟨"VeilMintModel", "keyTwo", "(I)I"⟩ ⟨"VeilMintModel", "keyTwo", "(I)I"⟩) ∈ lw_all := lw_g (lw_at lw_ms 53 rfl) rfl
theorem qs54 : (Cond.selects "VeilMintModel" ⟨"VeilMintModel", "noKey", "(I)Z"⟩ ⟨"VeilMintModel", "noKey", "(I)Z"⟩) ∈ lw_all := lw_g (lw_at lw_ms 54 rfl) rfl
theorem qs55 : (Cond.selects "VeilMintModel" ⟨"VeilMintModel", "blindsOne", "(I)Z"⟩ ⟨"VeilMintModel", "blindsOne", "(I)Z"⟩) ∈ lw_all := lw_g (lw_at lw_ms 55 rfl) rfl
theorem qs56 : (Cond.selects "VeilMintModel" ⟨"VeilMintModel", "toPoint", "([BIILVeilMintModel$Spot;)V"⟩ ⟨"VeilMintModel", "toPoint", "([BIILVeilMintModel$Spot;)V"⟩) ∈ lw_all := lw_g (lw_at lw_ms 56 rfl) rfl
theorem qs57 : (Cond.selects "VeilMintModel" ⟨"VeilMintModel", "tags", "(Ljava/lang/String;)V"⟩ ⟨"VeilMintModel", "tags", "(Ljava/lang/String;)V"⟩) ∈ lw_all := lw_g (lw_at lw_ms 57 rfl) rfl
theorem qs58 : (Cond.selects "VeilMintModel" ⟨"VeilMintModel", "word", "(Ljava/lang/String;)V"⟩ ⟨"VeilMintModel", "word", "(Ljava/lang/String;)V"⟩) ∈ lw_all := lw_g (lw_at lw_ms 58 rfl) rfl
theorem qs59 : (Cond.selects "VeilMintModel" ⟨"VeilMintModel", "context", "()V"⟩ ⟨"VeilMintModel", "context", "()V"⟩) ∈ lw_all := lw_g (lw_at lw_ms 59 rfl) rfl
theorem qs60 : (Cond.selects "VeilMintModel" ⟨"VeilMintModel", "expands", "(I)V"⟩ ⟨"VeilMintModel", "expands", "(I)V"⟩) ∈ lw_all := lw_g (lw_at lw_ms 60 rfl) rfl
theorem qs61 : (Cond.selects "VeilMintModel" ⟨"VeilMintModel", "endsTag", "()V"⟩ ⟨"VeilMintModel", "endsTag", "()V"⟩) ∈ lw_all := lw_g (lw_at lw_ms 61 rfl) rfl
theorem qs62 : (Cond.selects "VeilMintModel" ⟨"VeilMintModel", "h3", "()V"⟩ ⟨"VeilMintModel", "h3", "()V"⟩) ∈ lw_all := lw_g (lw_at lw_ms 62 rfl) rfl
theorem qs63 : (Cond.selects "VeilMintModel" ⟨"VeilMintModel", "wideBlock", "(I)V"⟩ ⟨"VeilMintModel", "wideBlock", "(I)V"⟩) ∈ lw_all := lw_g (lw_at lw_ms 63 rfl) rfl
theorem qs64 : (Cond.selects "VeilMintModel" ⟨"VeilMintModel", "field", "(LVeilMintModel$Mod;I[I)V"⟩ ⟨"VeilMintModel", "field", "(LVeilMintModel$Mod;I[I)V"⟩) ∈ lw_all := lw_g (lw_at lw_ms 64 rfl) rfl
theorem qs65 : (Cond.selects "VeilMintModel" ⟨"VeilMintModel", "map", "([ILVeilMintModel$Spot;)V"⟩ ⟨"VeilMintModel", "map", "([ILVeilMintModel$Spot;)V"⟩) ∈ lw_all := lw_g (lw_at lw_ms 65 rfl) rfl
theorem qs66 : (Cond.selects "VeilMintModel" ⟨"VeilMintModel", "curve", "([I[I)V"⟩ ⟨"VeilMintModel", "curve", "([I[I)V"⟩) ∈ lw_all := lw_g (lw_at lw_ms 66 rfl) rfl
theorem qs67 : (Cond.selects "VeilMintModel" ⟨"VeilMintModel", "root", "([I[I)Z"⟩ ⟨"VeilMintModel", "root", "([I[I)Z"⟩) ∈ lw_all := lw_g (lw_at lw_ms 67 rfl) rfl
theorem qs68 : (Cond.selects "VeilMintModel" ⟨"VeilMintModel", "power", "(LVeilMintModel$Mod;[I[II[I)V"⟩ ⟨"VeilMintModel", "power", "(LVeilMintModel$Mod;[I[II[I)V"⟩) ∈ lw_all := lw_g (lw_at lw_ms 68 rfl) rfl
theorem qs69 : (Cond.selects "VeilMintModel" ⟨"VeilMintModel", "join", "(LVeilMintModel$Spot;LVeilMintModel$Spot;LVeilMintModel$Spot;)V"⟩ ⟨"VeilMintModel", "join", "(LVeilMintModel$Spot;LVeilMintModel$Spot;LVeilMintModel$Spot;)V"⟩) ∈ lw_all := lw_g (lw_at lw_ms 69 rfl) rfl
theorem qs70 : (Cond.selects "VeilMintModel" ⟨"VeilMintModel", "blindsTwo", "(II)Z"⟩ ⟨"VeilMintModel", "blindsTwo", "(II)Z"⟩) ∈ lw_all := lw_g (lw_at lw_ms 70 rfl) rfl
theorem qs71 : (Cond.selects "VeilMintModel" ⟨"VeilMintModel", "encodes", "(I[BI[BI[I)V"⟩ ⟨"VeilMintModel", "encodes", "(I[BI[BI[I)V"⟩) ∈ lw_all := lw_g (lw_at lw_ms 71 rfl) rfl
theorem qs72 : (Cond.selects "VeilMintModel" ⟨"VeilMintModel", "salted", "([BI[BII)V"⟩ ⟨"VeilMintModel", "salted", "([BI[BII)V"⟩) ∈ lw_all := lw_g (lw_at lw_ms 72 rfl) rfl
theorem qs73 : (Cond.selects "VeilMintModel" ⟨"VeilMintModel", "masks", "([BII)V"⟩ ⟨"VeilMintModel", "masks", "([BII)V"⟩) ∈ lw_all := lw_g (lw_at lw_ms 73 rfl) rfl
theorem qs74 : (Cond.selects "VeilMintModel" ⟨"VeilMintModel", "byE", "(I[I[I)V"⟩ ⟨"VeilMintModel", "byE", "(I[I[I)V"⟩) ∈ lw_all := lw_g (lw_at lw_ms 74 rfl) rfl
theorem qs75 : (Cond.selects "VeilMintModel" ⟨"VeilMintModel", "isType", "(I)Z"⟩ ⟨"VeilMintModel", "isType", "(I)Z"⟩) ∈ lw_all := lw_g (lw_at lw_ms 75 rfl) rfl
theorem qs76 : (Cond.selects "VeilMintModel" ⟨"VeilMintModel", "keyOf", "(II)I"⟩ ⟨"VeilMintModel", "keyOf", "(II)I"⟩) ∈ lw_all := lw_g (lw_at lw_ms 76 rfl) rfl
theorem qs77 : (Cond.selects "VeilMintModel" ⟨"VeilMintModel", "gives", "(II)I"⟩ ⟨"VeilMintModel", "gives", "(II)I"⟩) ∈ lw_all := lw_g (lw_at lw_ms 77 rfl) rfl
theorem qs78 : (Cond.selects "VeilMintModel" ⟨"VeilMintModel", "element", "([BILVeilMintModel$Spot;)Z"⟩ ⟨"VeilMintModel", "element", "([BILVeilMintModel$Spot;)Z"⟩) ∈ lw_all := lw_g (lw_at lw_ms 78 rfl) rfl
theorem qs79 : (Cond.selects "VeilMintModel" ⟨"VeilMintModel", "proves", "(II[I)Z"⟩ ⟨"VeilMintModel", "proves", "(II[I)Z"⟩) ∈ lw_all := lw_g (lw_at lw_ms 79 rfl) rfl
theorem qs80 : (Cond.selects "VeilMintModel" ⟨"VeilMintModel", "composes", "(ILVeilMintModel$Spot;)V"⟩ ⟨"VeilMintModel", "composes", "(ILVeilMintModel$Spot;)V"⟩) ∈ lw_all := lw_g (lw_at lw_ms 80 rfl) rfl
theorem qs81 : (Cond.selects "VeilMintModel" ⟨"VeilMintModel", "lays", "([BII)V"⟩ ⟨"VeilMintModel", "lays", "([BII)V"⟩) ∈ lw_all := lw_g (lw_at lw_ms 81 rfl) rfl
theorem qs82 : (Cond.selects "VeilMintModel" ⟨"VeilMintModel", "laysSpot", "(LVeilMintModel$Spot;)V"⟩ ⟨"VeilMintModel", "laysSpot", "(LVeilMintModel$Spot;)V"⟩) ∈ lw_all := lw_g (lw_at lw_ms 82 rfl) rfl
theorem qs83 : (Cond.selects "VeilMintModel" ⟨"VeilMintModel", "laysWord", "(Ljava/lang/String;)V"⟩ ⟨"VeilMintModel", "laysWord", "(Ljava/lang/String;)V"⟩) ∈ lw_all := lw_g (lw_at lw_ms 83 rfl) rfl
theorem qs84 : (Cond.selects "VeilMintModel" ⟨"VeilMintModel", "toScalar", "([I)V"⟩ ⟨"VeilMintModel", "toScalar", "([I)V"⟩) ∈ lw_all := lw_g (lw_at lw_ms 84 rfl) rfl
theorem qs85 : (Cond.selects "VeilMintModel" ⟨"VeilMintModel", "challenges", "(LVeilMintModel$Spot;[I)Z"⟩ ⟨"VeilMintModel", "challenges", "(LVeilMintModel$Spot;[I)Z"⟩) ∈ lw_all := lw_g (lw_at lw_ms 85 rfl) rfl
theorem qs86 : (Cond.selects "VeilMintModel" ⟨"VeilMintModel", "signs", "(I)I"⟩ ⟨"VeilMintModel", "signs", "(I)I"⟩) ∈ lw_all := lw_g (lw_at lw_ms 86 rfl) rfl
theorem qs87 : (Cond.selects "VeilMintModel" ⟨"VeilMintModel", "isAsking", "(I)Z"⟩ ⟨"VeilMintModel", "isAsking", "(I)Z"⟩) ∈ lw_all := lw_g (lw_at lw_ms 87 rfl) rfl
theorem qs88 : (Cond.selects "VeilMintModel" ⟨"VeilMintModel", "ends", "(III)I"⟩ ⟨"VeilMintModel", "ends", "(III)I"⟩) ∈ lw_all := lw_g (lw_at lw_ms 88 rfl) rfl
theorem qs89 : (Cond.selects "VeilMintModel" ⟨"VeilMintModel", "isProved", "(II)Z"⟩ ⟨"VeilMintModel", "isProved", "(II)Z"⟩) ∈ lw_all := lw_g (lw_at lw_ms 89 rfl) rfl
theorem qs90 : (Cond.selects "VeilMintModel" ⟨"VeilMintModel", "output", "([BILVeilMintModel$Spot;)V"⟩ ⟨"VeilMintModel", "output", "([BILVeilMintModel$Spot;)V"⟩) ∈ lw_all := lw_g (lw_at lw_ms 90 rfl) rfl
theorem qs91 : (Cond.selects "VeilMintModel" ⟨"VeilMintModel", "endsTwo", "(II)I"⟩ ⟨"VeilMintModel", "endsTwo", "(II)I"⟩) ∈ lw_all := lw_g (lw_at lw_ms 91 rfl) rfl
theorem qs92 : (Cond.selects "VeilMintModel" ⟨"VeilMintModel", "isSigned", "(I[BI[I)Z"⟩ ⟨"VeilMintModel", "isSigned", "(I[BI[I)Z"⟩) ∈ lw_all := lw_g (lw_at lw_ms 92 rfl) rfl
theorem qs93 : (Cond.selects "VeilMintModel" ⟨"VeilMintModel", "isRight", "(I)Z"⟩ ⟨"VeilMintModel", "isRight", "(I)Z"⟩) ∈ lw_all := lw_g (lw_at lw_ms 93 rfl) rfl
theorem qs94 : (Cond.selects "VeilMintModel" ⟨"VeilMintModel", "isFree", "(I)Z"⟩ ⟨"VeilMintModel", "isFree", "(I)Z"⟩) ∈ lw_all := lw_g (lw_at lw_ms 94 rfl) rfl
theorem qs95 : (Cond.selects "VeilMintModel" ⟨"VeilMintModel", "isIn", "(I)Z"⟩ ⟨"VeilMintModel", "isIn", "(I)Z"⟩) ∈ lw_all := lw_g (lw_at lw_ms 95 rfl) rfl
theorem qs96 : (Cond.selects "VeilMintModel" ⟨"VeilMintModel", "spent", "()I"⟩ ⟨"VeilMintModel", "spent", "()I"⟩) ∈ lw_all := lw_g (lw_at lw_ms 96 rfl) rfl
