set_option maxRecDepth 100000
abbrev MJ0_charAt : MI := (yJ0_charAt, cJ0_charAt, 2, (Option.some Jvm.ClassFile.FieldType.char), none)
theorem wJ0_charAt : wdM MJ0_charAt ∈ lw_all := q214
theorem nJ0_charAt : (parseMethodDescriptor MJ0_charAt.1.desc).map (fun d => d.parameters.length) = some 1 := by decide +kernel
abbrev MJ0_checkIndex : MI := (yJ0_checkIndex, cJ0_checkIndex, 2, (Option.none : Option Jvm.ClassFile.FieldType), none)
theorem wJ0_checkIndex : wdM MJ0_checkIndex ∈ lw_all := q224
theorem nJ0_checkIndex : (parseMethodDescriptor MJ0_checkIndex.1.desc).map (fun d => d.parameters.length) = some 2 := by decide +kernel
abbrev MJ0_coder : MI := (yJ0_coder, cJ0_coder, 1, (Option.some Jvm.ClassFile.FieldType.byte), none)
theorem wJ0_coder : wdM MJ0_coder ∈ lw_all := q208
theorem nJ0_coder : (parseMethodDescriptor MJ0_coder.1.desc).map (fun d => d.parameters.length) = some 0 := by decide +kernel
abbrev MJ0_isLatin1 : MI := (yJ0_isLatin1, cJ0_isLatin1, 1, (Option.some Jvm.ClassFile.FieldType.boolean), none)
theorem wJ0_isLatin1 : wdM MJ0_isLatin1 ∈ lw_all := q218
theorem nJ0_isLatin1 : (parseMethodDescriptor MJ0_isLatin1.1.desc).map (fun d => d.parameters.length) = some 0 := by decide +kernel
abbrev MJ0_length : MI := (yJ0_length, cJ0_length, 1, (Option.some Jvm.ClassFile.FieldType.int), none)
theorem wJ0_length : wdM MJ0_length ∈ lw_all := q204
theorem nJ0_length : (parseMethodDescriptor MJ0_length.1.desc).map (fun d => d.parameters.length) = some 0 := by decide +kernel
abbrev MJ1_charAt : MI := (yJ1_charAt, cJ1_charAt, 2, (Option.some Jvm.ClassFile.FieldType.char), none)
theorem wJ1_charAt : wdM MJ1_charAt ∈ lw_all := q221
theorem nJ1_charAt : (parseMethodDescriptor MJ1_charAt.1.desc).map (fun d => d.parameters.length) = some 2 := by decide +kernel
abbrev MJ10_init : MI := (yJ10_init, cJ10_init, 1, (Option.none : Option Jvm.ClassFile.FieldType), none)
theorem wJ10_init : wdM MJ10_init ∈ lw_all := q132
theorem nJ10_init : (parseMethodDescriptor MJ10_init.1.desc).map (fun d => d.parameters.length) = some 0 := by decide +kernel
abbrev MJ2_checkIndex : MI := (yJ2_checkIndex, cJ2_checkIndex, 3, (Option.some Jvm.ClassFile.FieldType.int), none)
theorem wJ2_checkIndex : wdM MJ2_checkIndex ∈ lw_all := q229
theorem nJ2_checkIndex : (parseMethodDescriptor MJ2_checkIndex.1.desc).map (fun d => d.parameters.length) = some 3 := by decide +kernel
abbrev MJ3_charAt : MI := (yJ3_charAt, cJ3_charAt, 2, (Option.some Jvm.ClassFile.FieldType.char), none)
theorem wJ3_charAt : wdM MJ3_charAt ∈ lw_all := q232
theorem nJ3_charAt : (parseMethodDescriptor MJ3_charAt.1.desc).map (fun d => d.parameters.length) = some 2 := by decide +kernel
abbrev MJ3_checkIndex : MI := (yJ3_checkIndex, cJ3_checkIndex, 2, (Option.none : Option Jvm.ClassFile.FieldType), none)
theorem wJ3_checkIndex : wdM MJ3_checkIndex ∈ lw_all := q235
theorem nJ3_checkIndex : (parseMethodDescriptor MJ3_checkIndex.1.desc).map (fun d => d.parameters.length) = some 2 := by decide +kernel
abbrev MJ3_getChar : MI := (yJ3_getChar, cJ3_getChar, 2, (Option.some Jvm.ClassFile.FieldType.char), none)
theorem wJ3_getChar : wdM MJ3_getChar ∈ lw_all := q242
theorem nJ3_getChar : (parseMethodDescriptor MJ3_getChar.1.desc).map (fun d => d.parameters.length) = some 2 := by decide +kernel
abbrev MJ3_length : MI := (yJ3_length, cJ3_length, 1, (Option.some Jvm.ClassFile.FieldType.int), none)
theorem wJ3_length : wdM MJ3_length ∈ lw_all := q238
theorem nJ3_length : (parseMethodDescriptor MJ3_length.1.desc).map (fun d => d.parameters.length) = some 1 := by decide +kernel
abbrev MJ4_compare : MI := (yJ4_compare, cJ4_compare, 2, (Option.some Jvm.ClassFile.FieldType.int), none)
theorem wJ4_compare : wdM MJ4_compare ∈ lw_all := q276
theorem nJ4_compare : (parseMethodDescriptor MJ4_compare.1.desc).map (fun d => d.parameters.length) = some 2 := by decide +kernel
abbrev MJ4_compareUnsigned : MI := (yJ4_compareUnsigned, cJ4_compareUnsigned, 2, (Option.some Jvm.ClassFile.FieldType.int), none)
theorem wJ4_compareUnsigned : wdM MJ4_compareUnsigned ∈ lw_all := q272
theorem nJ4_compareUnsigned : (parseMethodDescriptor MJ4_compareUnsigned.1.desc).map (fun d => d.parameters.length) = some 2 := by decide +kernel
abbrev MJ4_numberOfLeadingZeros : MI := (yJ4_numberOfLeadingZeros, cJ4_numberOfLeadingZeros, 2, (Option.some Jvm.ClassFile.FieldType.int), none)
theorem wJ4_numberOfLeadingZeros : wdM MJ4_numberOfLeadingZeros ∈ lw_all := q756
theorem nJ4_numberOfLeadingZeros : (parseMethodDescriptor MJ4_numberOfLeadingZeros.1.desc).map (fun d => d.parameters.length) = some 1 := by decide +kernel
abbrev MJ4_rotateRight : MI := (yJ4_rotateRight, cJ4_rotateRight, 2, (Option.some Jvm.ClassFile.FieldType.int), none)
theorem wJ4_rotateRight : wdM MJ4_rotateRight ∈ lw_all := q869
theorem nJ4_rotateRight : (parseMethodDescriptor MJ4_rotateRight.1.desc).map (fun d => d.parameters.length) = some 2 := by decide +kernel
abbrev MJ5_init : MI := (yJ5_init, cJ5_init, 1, (Option.none : Option Jvm.ClassFile.FieldType), none)
theorem wJ5_init : wdM MJ5_init ∈ lw_all := q449
theorem nJ5_init : (parseMethodDescriptor MJ5_init.1.desc).map (fun d => d.parameters.length) = some 0 := by decide +kernel
abbrev MJ5_init_2 : MI := (yJ5_init_2, cJ5_init_2, 5, (Option.none : Option Jvm.ClassFile.FieldType), none)
theorem wJ5_init_2 : wdM MJ5_init_2 ∈ lw_all := q476
theorem nJ5_init_2 : (parseMethodDescriptor MJ5_init_2.1.desc).map (fun d => d.parameters.length) = some 4 := by decide +kernel
abbrev MJ6_init : MI := (yJ6_init, cJ6_init, 5, (Option.none : Option Jvm.ClassFile.FieldType), none)
theorem wJ6_init : wdM MJ6_init ∈ lw_all := q473
theorem nJ6_init : (parseMethodDescriptor MJ6_init.1.desc).map (fun d => d.parameters.length) = some 4 := by decide +kernel
abbrev MJ6_init_2 : MI := (yJ6_init_2, cJ6_init_2, 1, (Option.none : Option Jvm.ClassFile.FieldType), none)
theorem wJ6_init_2 : wdM MJ6_init_2 ∈ lw_all := q1275
theorem nJ6_init_2 : (parseMethodDescriptor MJ6_init_2.1.desc).map (fun d => d.parameters.length) = some 0 := by decide +kernel
abbrev MJ7_init : MI := (yJ7_init, cJ7_init, 5, (Option.none : Option Jvm.ClassFile.FieldType), none)
theorem wJ7_init : wdM MJ7_init ∈ lw_all := q470
theorem nJ7_init : (parseMethodDescriptor MJ7_init.1.desc).map (fun d => d.parameters.length) = some 4 := by decide +kernel
abbrev MJ7_init_2 : MI := (yJ7_init_2, cJ7_init_2, 1, (Option.none : Option Jvm.ClassFile.FieldType), none)
theorem wJ7_init_2 : wdM MJ7_init_2 ∈ lw_all := q1272
theorem nJ7_init_2 : (parseMethodDescriptor MJ7_init_2.1.desc).map (fun d => d.parameters.length) = some 0 := by decide +kernel
abbrev MJ8_compare : MI := (yJ8_compare, cJ8_compare, 4, (Option.some Jvm.ClassFile.FieldType.int), none)
theorem wJ8_compare : wdM MJ8_compare ∈ lw_all := q1790
theorem nJ8_compare : (parseMethodDescriptor MJ8_compare.1.desc).map (fun d => d.parameters.length) = some 2 := by decide +kernel
abbrev MJ8_compareUnsigned : MI := (yJ8_compareUnsigned, cJ8_compareUnsigned, 4, (Option.some Jvm.ClassFile.FieldType.int), none)
theorem wJ8_compareUnsigned : wdM MJ8_compareUnsigned ∈ lw_all := q1786
theorem nJ8_compareUnsigned : (parseMethodDescriptor MJ8_compareUnsigned.1.desc).map (fun d => d.parameters.length) = some 2 := by decide +kernel
abbrev MJ8_divideUnsigned : MI := (yJ8_divideUnsigned, cJ8_divideUnsigned, 8, (Option.some Jvm.ClassFile.FieldType.long), none)
theorem wJ8_divideUnsigned : wdM MJ8_divideUnsigned ∈ lw_all := q1778
theorem nJ8_divideUnsigned : (parseMethodDescriptor MJ8_divideUnsigned.1.desc).map (fun d => d.parameters.length) = some 2 := by decide +kernel
abbrev MJ8_remainderUnsigned : MI := (yJ8_remainderUnsigned, cJ8_remainderUnsigned, 8, (Option.some Jvm.ClassFile.FieldType.long), none)
theorem wJ8_remainderUnsigned : wdM MJ8_remainderUnsigned ∈ lw_all := q1782
theorem nJ8_remainderUnsigned : (parseMethodDescriptor MJ8_remainderUnsigned.1.desc).map (fun d => d.parameters.length) = some 2 := by decide +kernel
abbrev MJ8_rotateRight : MI := (yJ8_rotateRight, cJ8_rotateRight, 3, (Option.some Jvm.ClassFile.FieldType.long), none)
theorem wJ8_rotateRight : wdM MJ8_rotateRight ∈ lw_all := q877
theorem nJ8_rotateRight : (parseMethodDescriptor MJ8_rotateRight.1.desc).map (fun d => d.parameters.length) = some 2 := by decide +kernel
abbrev MJ9_init : MI := (yJ9_init, cJ9_init, 1, (Option.none : Option Jvm.ClassFile.FieldType), none)
theorem wJ9_init : wdM MJ9_init ∈ lw_all := q1269
theorem nJ9_init : (parseMethodDescriptor MJ9_init.1.desc).map (fun d => d.parameters.length) = some 0 := by decide +kernel
abbrev MX0_finalize : MI := (yX0_finalize, cX0_finalize, 4, (Option.some Jvm.ClassFile.FieldType.int), some ([((0 : Nat), (9 : Nat), (12 : Nat), (13 : Nat))]))
theorem wX0_finalize : wdM MX0_finalize ∈ lw_all := q1288
theorem nX0_finalize : (parseMethodDescriptor MX0_finalize.1.desc).map (fun d => d.parameters.length) = some 3 := by decide +kernel
abbrev MX0_finalizeMany : MI := (yX0_finalizeMany, cX0_finalizeMany, 5, (Option.some Jvm.ClassFile.FieldType.int), some ([((0 : Nat), (10 : Nat), (13 : Nat), (13 : Nat))]))
theorem wX0_finalizeMany : wdM MX0_finalizeMany ∈ lw_all := q1316
theorem nX0_finalizeMany : (parseMethodDescriptor MX0_finalizeMany.1.desc).map (fun d => d.parameters.length) = some 4 := by decide +kernel
abbrev MX0_look : MI := (yX0_look, cX0_look, 5, (Option.some Jvm.ClassFile.FieldType.int), some ([((0 : Nat), (10 : Nat), (13 : Nat), (13 : Nat))]))
theorem wX0_look : wdM MX0_look ∈ lw_all := q1281
theorem nX0_look : (parseMethodDescriptor MX0_look.1.desc).map (fun d => d.parameters.length) = some 4 := by decide +kernel
abbrev MX0_retire : MI := (yX0_retire, cX0_retire, 4, (Option.some Jvm.ClassFile.FieldType.int), some ([((0 : Nat), (16 : Nat), (19 : Nat), (13 : Nat))]))
theorem wX0_retire : wdM MX0_retire ∈ lw_all := q1248
theorem nX0_retire : (parseMethodDescriptor MX0_retire.1.desc).map (fun d => d.parameters.length) = some 3 := by decide +kernel
abbrev MX1_again : MI := (yX1_again, cX1_again, 3, (Option.some Jvm.ClassFile.FieldType.int), none)
theorem wX1_again : wdM MX1_again ∈ lw_all := q585
theorem nX1_again : (parseMethodDescriptor MX1_again.1.desc).map (fun d => d.parameters.length) = some 2 := by decide +kernel
abbrev MX1_count : MI := (yX1_count, cX1_count, 4, (Option.some Jvm.ClassFile.FieldType.int), none)
theorem wX1_count : wdM MX1_count ∈ lw_all := q1245
theorem nX1_count : (parseMethodDescriptor MX1_count.1.desc).map (fun d => d.parameters.length) = some 1 := by decide +kernel
abbrev MX1_cut : MI := (yX1_cut, cX1_cut, 2, (Option.some Jvm.ClassFile.FieldType.boolean), none)
theorem wX1_cut : wdM MX1_cut ∈ lw_all := q1229
theorem nX1_cut : (parseMethodDescriptor MX1_cut.1.desc).map (fun d => d.parameters.length) = some 1 := by decide +kernel
abbrev MX1_digest : MI := (yX1_digest, cX1_digest, 2, (Option.some Jvm.ClassFile.FieldType.int), none)
theorem wX1_digest : wdM MX1_digest ∈ lw_all := q904
theorem nX1_digest : (parseMethodDescriptor MX1_digest.1.desc).map (fun d => d.parameters.length) = some 0 := by decide +kernel
abbrev MX1_disk : MI := (yX1_disk, cX1_disk, 2, (Option.some Jvm.ClassFile.FieldType.int), none)
theorem wX1_disk : wdM MX1_disk ∈ lw_all := q1241
theorem nX1_disk : (parseMethodDescriptor MX1_disk.1.desc).map (fun d => d.parameters.length) = some 1 := by decide +kernel
abbrev MX1_end : MI := (yX1_end, cX1_end, 2, (Option.some Jvm.ClassFile.FieldType.boolean), none)
theorem wX1_end : wdM MX1_end ∈ lw_all := q581
theorem nX1_end : (parseMethodDescriptor MX1_end.1.desc).map (fun d => d.parameters.length) = some 1 := by decide +kernel
abbrev MX1_feed : MI := (yX1_feed, cX1_feed, 6, (Option.some Jvm.ClassFile.FieldType.int), none)
theorem wX1_feed : wdM MX1_feed ∈ lw_all := q573
theorem nX1_feed : (parseMethodDescriptor MX1_feed.1.desc).map (fun d => d.parameters.length) = some 5 := by decide +kernel
abbrev MX1_finalize : MI := (yX1_finalize, cX1_finalize, 3, (Option.some Jvm.ClassFile.FieldType.int), none)
theorem wX1_finalize : wdM MX1_finalize ∈ lw_all := q1292
theorem nX1_finalize : (parseMethodDescriptor MX1_finalize.1.desc).map (fun d => d.parameters.length) = some 1 := by decide +kernel
abbrev MX1_finalizeMany : MI := (yX1_finalizeMany, cX1_finalizeMany, 6, (Option.some Jvm.ClassFile.FieldType.int), none)
theorem wX1_finalizeMany : wdM MX1_finalizeMany ∈ lw_all := q1320
theorem nX1_finalizeMany : (parseMethodDescriptor MX1_finalizeMany.1.desc).map (fun d => d.parameters.length) = some 2 := by decide +kernel
abbrev MX1_finished : MI := (yX1_finished, cX1_finished, 6, (Option.some Jvm.ClassFile.FieldType.int), some ([((24 : Nat), (43 : Nat), (46 : Nat), (42 : Nat))]))
theorem wX1_finished : wdM MX1_finished ∈ lw_all := q1300
theorem nX1_finished : (parseMethodDescriptor MX1_finished.1.desc).map (fun d => d.parameters.length) = some 3 := by decide +kernel
abbrev MX1_four : MI := (yX1_four, cX1_four, 3, (Option.none : Option Jvm.ClassFile.FieldType), none)
theorem wX1_four : wdM MX1_four ∈ lw_all := q577
theorem nX1_four : (parseMethodDescriptor MX1_four.1.desc).map (fun d => d.parameters.length) = some 1 := by decide +kernel
abbrev MX1_init : MI := (yX1_init, cX1_init, 1, (Option.none : Option Jvm.ClassFile.FieldType), none)
theorem wX1_init : wdM MX1_init ∈ lw_all := q129
theorem nX1_init : (parseMethodDescriptor MX1_init.1.desc).map (fun d => d.parameters.length) = some 0 := by decide +kernel
abbrev MX1_isId : MI := (yX1_isId, cX1_isId, 4, (Option.some Jvm.ClassFile.FieldType.boolean), none)
theorem wX1_isId : wdM MX1_isId ∈ lw_all := q1177
theorem nX1_isId : (parseMethodDescriptor MX1_isId.1.desc).map (fun d => d.parameters.length) = some 1 := by decide +kernel
abbrev MX1_issue : MI := (yX1_issue, cX1_issue, 1, (Option.some Jvm.ClassFile.FieldType.int), none)
theorem wX1_issue : wdM MX1_issue ∈ lw_all := q1091
theorem nX1_issue : (parseMethodDescriptor MX1_issue.1.desc).map (fun d => d.parameters.length) = some 0 := by decide +kernel
abbrev MX1_issueMany : MI := (yX1_issueMany, cX1_issueMany, 3, (Option.some Jvm.ClassFile.FieldType.int), none)
theorem wX1_issueMany : wdM MX1_issueMany ∈ lw_all := q1169
theorem nX1_issueMany : (parseMethodDescriptor MX1_issueMany.1.desc).map (fun d => d.parameters.length) = some 1 := by decide +kernel
abbrev MX1_issued : MI := (yX1_issued, cX1_issued, 7, (Option.some Jvm.ClassFile.FieldType.int), some ([((98 : Nat), (113 : Nat), (116 : Nat), (42 : Nat))]))
theorem wX1_issued : wdM MX1_issued ∈ lw_all := q1095
theorem nX1_issued : (parseMethodDescriptor MX1_issued.1.desc).map (fun d => d.parameters.length) = some 3 := by decide +kernel
abbrev MX1_key : MI := (yX1_key, cX1_key, 5, (Option.some Jvm.ClassFile.FieldType.int), some ([((39 : Nat), (87 : Nat), (90 : Nat), (42 : Nat))]))
theorem wX1_key : wdM MX1_key ∈ lw_all := q598
theorem nX1_key : (parseMethodDescriptor MX1_key.1.desc).map (fun d => d.parameters.length) = some 1 := by decide +kernel
abbrev MX1_keyAt : MI := (yX1_keyAt, cX1_keyAt, 2, (Option.some (Jvm.ClassFile.FieldType.object "VeilMint$Key")), none)
theorem wX1_keyAt : wdM MX1_keyAt ∈ lw_all := q1257
theorem nX1_keyAt : (parseMethodDescriptor MX1_keyAt.1.desc).map (fun d => d.parameters.length) = some 1 := by decide +kernel
abbrev MX1_limbs : MI := (yX1_limbs, cX1_limbs, 5, (Option.some (Jvm.ClassFile.FieldType.array Jvm.ClassFile.FieldType.int)), none)
theorem wX1_limbs : wdM MX1_limbs ∈ lw_all := q200
theorem nX1_limbs : (parseMethodDescriptor MX1_limbs.1.desc).map (fun d => d.parameters.length) = some 1 := by decide +kernel
abbrev MX1_liveOf : MI := (yX1_liveOf, cX1_liveOf, 4, (Option.some (Jvm.ClassFile.FieldType.object "VeilMint$Key")), none)
theorem wX1_liveOf : wdM MX1_liveOf ∈ lw_all := q1099
theorem nX1_liveOf : (parseMethodDescriptor MX1_liveOf.1.desc).map (fun d => d.parameters.length) = some 2 := by decide +kernel
abbrev MX1_look : MI := (yX1_look, cX1_look, 4, (Option.some Jvm.ClassFile.FieldType.int), none)
theorem wX1_look : wdM MX1_look ∈ lw_all := q1285
theorem nX1_look : (parseMethodDescriptor MX1_look.1.desc).map (fun d => d.parameters.length) = some 2 := by decide +kernel
abbrev MX1_mustBeOpen : MI := (yX1_mustBeOpen, cX1_mustBeOpen, 2, (Option.none : Option Jvm.ClassFile.FieldType), none)
theorem wX1_mustBeOpen : wdM MX1_mustBeOpen ∈ lw_all := q1296
theorem nX1_mustBeOpen : (parseMethodDescriptor MX1_mustBeOpen.1.desc).map (fun d => d.parameters.length) = some 1 := by decide +kernel
abbrev MX1_out : MI := (yX1_out, cX1_out, 2, (Option.some Jvm.ClassFile.FieldType.int), none)
theorem wX1_out : wdM MX1_out ∈ lw_all := q590
theorem nX1_out : (parseMethodDescriptor MX1_out.1.desc).map (fun d => d.parameters.length) = some 1 := by decide +kernel
abbrev MX1_outs : MI := (yX1_outs, cX1_outs, 1, (Option.some Jvm.ClassFile.FieldType.int), none)
theorem wX1_outs : wdM MX1_outs ∈ lw_all := q594
theorem nX1_outs : (parseMethodDescriptor MX1_outs.1.desc).map (fun d => d.parameters.length) = some 0 := by decide +kernel
abbrev MX1_power : MI := (yX1_power, cX1_power, 1, (Option.some Jvm.ClassFile.FieldType.int), none)
theorem wX1_power : wdM MX1_power ∈ lw_all := q1233
theorem nX1_power : (parseMethodDescriptor MX1_power.1.desc).map (fun d => d.parameters.length) = some 0 := by decide +kernel
abbrev MX1_redeem : MI := (yX1_redeem, cX1_redeem, 5, (Option.some Jvm.ClassFile.FieldType.int), some ([((126 : Nat), (142 : Nat), (145 : Nat), (42 : Nat))]))
theorem wX1_redeem : wdM MX1_redeem ∈ lw_all := q1173
theorem nX1_redeem : (parseMethodDescriptor MX1_redeem.1.desc).map (fun d => d.parameters.length) = some 0 := by decide +kernel
abbrev MX1_request : MI := (yX1_request, cX1_request, 6, (Option.some Jvm.ClassFile.FieldType.int), some ([((107 : Nat), (143 : Nat), (146 : Nat), (42 : Nat))]))
theorem wX1_request : wdM MX1_request ∈ lw_all := q913
theorem nX1_request : (parseMethodDescriptor MX1_request.1.desc).map (fun d => d.parameters.length) = some 1 := by decide +kernel
abbrev MX1_retire : MI := (yX1_retire, cX1_retire, 4, (Option.some Jvm.ClassFile.FieldType.boolean), none)
theorem wX1_retire : wdM MX1_retire ∈ lw_all := q1253
theorem nX1_retire : (parseMethodDescriptor MX1_retire.1.desc).map (fun d => d.parameters.length) = some 1 := by decide +kernel
abbrev MX1_told : MI := (yX1_told, cX1_told, 2, (Option.some Jvm.ClassFile.FieldType.int), none)
theorem wX1_told : wdM MX1_told ∈ lw_all := q909
theorem nX1_told : (parseMethodDescriptor MX1_told.1.desc).map (fun d => d.parameters.length) = some 1 := by decide +kernel
abbrev MX1_use : MI := (yX1_use, cX1_use, 2, (Option.some Jvm.ClassFile.FieldType.int), none)
theorem wX1_use : wdM MX1_use ∈ lw_all := q602
theorem nX1_use : (parseMethodDescriptor MX1_use.1.desc).map (fun d => d.parameters.length) = some 0 := by decide +kernel
abbrev MX10_add : MI := (yX10_add, cX10_add, 5, (Option.none : Option Jvm.ClassFile.FieldType), none)
theorem wX10_add : wdM MX10_add ∈ lw_all := q1800
theorem nX10_add : (parseMethodDescriptor MX10_add.1.desc).map (fun d => d.parameters.length) = some 4 := by decide +kernel
abbrev MX10_again : MI := (yX10_again, cX10_again, 4, (Option.some Jvm.ClassFile.FieldType.int), none)
theorem wX10_again : wdM MX10_again ∈ lw_all := q1710
theorem nX10_again : (parseMethodDescriptor MX10_again.1.desc).map (fun d => d.parameters.length) = some 2 := by decide +kernel
abbrev MX10_blindsOne : MI := (yX10_blindsOne, cX10_blindsOne, 2, (Option.some Jvm.ClassFile.FieldType.boolean), none)
theorem wX10_blindsOne : wdM MX10_blindsOne ∈ lw_all := q1893
theorem nX10_blindsOne : (parseMethodDescriptor MX10_blindsOne.1.desc).map (fun d => d.parameters.length) = some 1 := by decide +kernel
abbrev MX10_blindsTwo : MI := (yX10_blindsTwo, cX10_blindsTwo, 4, (Option.some Jvm.ClassFile.FieldType.boolean), none)
theorem wX10_blindsTwo : wdM MX10_blindsTwo ∈ lw_all := q1971
theorem nX10_blindsTwo : (parseMethodDescriptor MX10_blindsTwo.1.desc).map (fun d => d.parameters.length) = some 2 := by decide +kernel
abbrev MX10_block : MI := (yX10_block, cX10_block, 13, (Option.none : Option Jvm.ClassFile.FieldType), none)
theorem wX10_block : wdM MX10_block ∈ lw_all := q1859
theorem nX10_block : (parseMethodDescriptor MX10_block.1.desc).map (fun d => d.parameters.length) = some 1 := by decide +kernel
abbrev MX10_both : MI := (yX10_both, cX10_both, 2, (Option.none : Option Jvm.ClassFile.FieldType), none)
theorem wX10_both : wdM MX10_both ∈ lw_all := q1844
theorem nX10_both : (parseMethodDescriptor MX10_both.1.desc).map (fun d => d.parameters.length) = some 1 := by decide +kernel
abbrev MX10_byE : MI := (yX10_byE, cX10_byE, 4, (Option.none : Option Jvm.ClassFile.FieldType), none)
theorem wX10_byE : wdM MX10_byE ∈ lw_all := q1997
theorem nX10_byE : (parseMethodDescriptor MX10_byE.1.desc).map (fun d => d.parameters.length) = some 3 := by decide +kernel
abbrev MX10_bytes : MI := (yX10_bytes, cX10_bytes, 3, (Option.none : Option Jvm.ClassFile.FieldType), none)
theorem wX10_bytes : wdM MX10_bytes ∈ lw_all := q1829
theorem nX10_bytes : (parseMethodDescriptor MX10_bytes.1.desc).map (fun d => d.parameters.length) = some 3 := by decide +kernel
abbrev MX10_carried : MI := (yX10_carried, cX10_carried, 5, (Option.some Jvm.ClassFile.FieldType.long), none)
theorem wX10_carried : wdM MX10_carried ∈ lw_all := q1771
theorem nX10_carried : (parseMethodDescriptor MX10_carried.1.desc).map (fun d => d.parameters.length) = some 1 := by decide +kernel
abbrev MX10_challenges : MI := (yX10_challenges, cX10_challenges, 3, (Option.some Jvm.ClassFile.FieldType.boolean), none)
theorem wX10_challenges : wdM MX10_challenges ∈ lw_all := q2048
theorem nX10_challenges : (parseMethodDescriptor MX10_challenges.1.desc).map (fun d => d.parameters.length) = some 2 := by decide +kernel
abbrev MX10_clear : MI := (yX10_clear, cX10_clear, 1, (Option.some Jvm.ClassFile.FieldType.int), none)
theorem wX10_clear : wdM MX10_clear ∈ lw_all := q1993
theorem nX10_clear : (parseMethodDescriptor MX10_clear.1.desc).map (fun d => d.parameters.length) = some 1 := by decide +kernel
abbrev MX10_comes : MI := (yX10_comes, cX10_comes, 2, (Option.some Jvm.ClassFile.FieldType.int), none)
theorem wX10_comes : wdM MX10_comes ∈ lw_all := q1822
theorem nX10_comes : (parseMethodDescriptor MX10_comes.1.desc).map (fun d => d.parameters.length) = some 1 := by decide +kernel
abbrev MX10_compare : MI := (yX10_compare, cX10_compare, 4, (Option.some Jvm.ClassFile.FieldType.int), none)
theorem wX10_compare : wdM MX10_compare ∈ lw_all := q1742
theorem nX10_compare : (parseMethodDescriptor MX10_compare.1.desc).map (fun d => d.parameters.length) = some 3 := by decide +kernel
abbrev MX10_composes : MI := (yX10_composes, cX10_composes, 4, (Option.none : Option Jvm.ClassFile.FieldType), none)
theorem wX10_composes : wdM MX10_composes ∈ lw_all := q2025
theorem nX10_composes : (parseMethodDescriptor MX10_composes.1.desc).map (fun d => d.parameters.length) = some 2 := by decide +kernel
abbrev MX10_context : MI := (yX10_context, cX10_context, 1, (Option.none : Option Jvm.ClassFile.FieldType), none)
theorem wX10_context : wdM MX10_context ∈ lw_all := q1912
theorem nX10_context : (parseMethodDescriptor MX10_context.1.desc).map (fun d => d.parameters.length) = some 0 := by decide +kernel
abbrev MX10_copy : MI := (yX10_copy, cX10_copy, 4, (Option.none : Option Jvm.ClassFile.FieldType), none)
theorem wX10_copy : wdM MX10_copy ∈ lw_all := q1390
theorem nX10_copy : (parseMethodDescriptor MX10_copy.1.desc).map (fun d => d.parameters.length) = some 3 := by decide +kernel
abbrev MX10_count : MI := (yX10_count, cX10_count, 4, (Option.some Jvm.ClassFile.FieldType.int), none)
theorem wX10_count : wdM MX10_count ∈ lw_all := q2130
theorem nX10_count : (parseMethodDescriptor MX10_count.1.desc).map (fun d => d.parameters.length) = some 1 := by decide +kernel
abbrev MX10_curve : MI := (yX10_curve, cX10_curve, 3, (Option.none : Option Jvm.ClassFile.FieldType), none)
theorem wX10_curve : wdM MX10_curve ∈ lw_all := q1952
theorem nX10_curve : (parseMethodDescriptor MX10_curve.1.desc).map (fun d => d.parameters.length) = some 2 := by decide +kernel
abbrev MX10_cut : MI := (yX10_cut, cX10_cut, 2, (Option.some Jvm.ClassFile.FieldType.boolean), none)
theorem wX10_cut : wdM MX10_cut ∈ lw_all := q2114
theorem nX10_cut : (parseMethodDescriptor MX10_cut.1.desc).map (fun d => d.parameters.length) = some 1 := by decide +kernel
abbrev MX10_digest : MI := (yX10_digest, cX10_digest, 3, (Option.some Jvm.ClassFile.FieldType.int), none)
theorem wX10_digest : wdM MX10_digest ∈ lw_all := q1885
theorem nX10_digest : (parseMethodDescriptor MX10_digest.1.desc).map (fun d => d.parameters.length) = some 0 := by decide +kernel
abbrev MX10_disk : MI := (yX10_disk, cX10_disk, 2, (Option.some Jvm.ClassFile.FieldType.int), none)
theorem wX10_disk : wdM MX10_disk ∈ lw_all := q2126
theorem nX10_disk : (parseMethodDescriptor MX10_disk.1.desc).map (fun d => d.parameters.length) = some 1 := by decide +kernel
abbrev MX10_doubles : MI := (yX10_doubles, cX10_doubles, 1, (Option.none : Option Jvm.ClassFile.FieldType), none)
theorem wX10_doubles : wdM MX10_doubles ∈ lw_all := q1755
theorem nX10_doubles : (parseMethodDescriptor MX10_doubles.1.desc).map (fun d => d.parameters.length) = some 0 := by decide +kernel
abbrev MX10_eight : MI := (yX10_eight, cX10_eight, 3, (Option.none : Option Jvm.ClassFile.FieldType), none)
theorem wX10_eight : wdM MX10_eight ∈ lw_all := q1804
theorem nX10_eight : (parseMethodDescriptor MX10_eight.1.desc).map (fun d => d.parameters.length) = some 1 := by decide +kernel
abbrev MX10_element : MI := (yX10_element, cX10_element, 4, (Option.some Jvm.ClassFile.FieldType.boolean), none)
theorem wX10_element : wdM MX10_element ∈ lw_all := q2017
theorem nX10_element : (parseMethodDescriptor MX10_element.1.desc).map (fun d => d.parameters.length) = some 3 := by decide +kernel
abbrev MX10_encodedSize : MI := (yX10_encodedSize, cX10_encodedSize, 1, (Option.some Jvm.ClassFile.FieldType.int), none)
theorem wX10_encodedSize : wdM MX10_encodedSize ∈ lw_all := q1978
theorem nX10_encodedSize : (parseMethodDescriptor MX10_encodedSize.1.desc).map (fun d => d.parameters.length) = some 1 := by decide +kernel
abbrev MX10_encodes : MI := (yX10_encodes, cX10_encodes, 13, (Option.none : Option Jvm.ClassFile.FieldType), none)
theorem wX10_encodes : wdM MX10_encodes ∈ lw_all := q1975
theorem nX10_encodes : (parseMethodDescriptor MX10_encodes.1.desc).map (fun d => d.parameters.length) = some 6 := by decide +kernel
abbrev MX10_end : MI := (yX10_end, cX10_end, 2, (Option.some Jvm.ClassFile.FieldType.boolean), none)
theorem wX10_end : wdM MX10_end ∈ lw_all := q1706
theorem nX10_end : (parseMethodDescriptor MX10_end.1.desc).map (fun d => d.parameters.length) = some 1 := by decide +kernel
abbrev MX10_ends : MI := (yX10_ends, cX10_ends, 8, (Option.some Jvm.ClassFile.FieldType.int), none)
theorem wX10_ends : wdM MX10_ends ∈ lw_all := q2069
theorem nX10_ends : (parseMethodDescriptor MX10_ends.1.desc).map (fun d => d.parameters.length) = some 3 := by decide +kernel
abbrev MX10_endsTag : MI := (yX10_endsTag, cX10_endsTag, 1, (Option.none : Option Jvm.ClassFile.FieldType), none)
theorem wX10_endsTag : wdM MX10_endsTag ∈ lw_all := q1922
theorem nX10_endsTag : (parseMethodDescriptor MX10_endsTag.1.desc).map (fun d => d.parameters.length) = some 0 := by decide +kernel
abbrev MX10_endsTwo : MI := (yX10_endsTwo, cX10_endsTwo, 6, (Option.some Jvm.ClassFile.FieldType.int), none)
theorem wX10_endsTwo : wdM MX10_endsTwo ∈ lw_all := q2082
theorem nX10_endsTwo : (parseMethodDescriptor MX10_endsTwo.1.desc).map (fun d => d.parameters.length) = some 2 := by decide +kernel
abbrev MX10_expands : MI := (yX10_expands, cX10_expands, 4, (Option.none : Option Jvm.ClassFile.FieldType), none)
theorem wX10_expands : wdM MX10_expands ∈ lw_all := q1918
theorem nX10_expands : (parseMethodDescriptor MX10_expands.1.desc).map (fun d => d.parameters.length) = some 1 := by decide +kernel
abbrev MX10_feed : MI := (yX10_feed, cX10_feed, 7, (Option.some Jvm.ClassFile.FieldType.int), none)
theorem wX10_feed : wdM MX10_feed ∈ lw_all := q1702
theorem nX10_feed : (parseMethodDescriptor MX10_feed.1.desc).map (fun d => d.parameters.length) = some 5 := by decide +kernel
abbrev MX10_field : MI := (yX10_field, cX10_field, 4, (Option.none : Option Jvm.ClassFile.FieldType), none)
theorem wX10_field : wdM MX10_field ∈ lw_all := q1942
theorem nX10_field : (parseMethodDescriptor MX10_field.1.desc).map (fun d => d.parameters.length) = some 3 := by decide +kernel
abbrev MX10_finalize : MI := (yX10_finalize, cX10_finalize, 4, (Option.some Jvm.ClassFile.FieldType.int), none)
theorem wX10_finalize : wdM MX10_finalize ∈ lw_all := q2061
theorem nX10_finalize : (parseMethodDescriptor MX10_finalize.1.desc).map (fun d => d.parameters.length) = some 1 := by decide +kernel
abbrev MX10_finalizeMany : MI := (yX10_finalizeMany, cX10_finalizeMany, 6, (Option.some Jvm.ClassFile.FieldType.int), none)
theorem wX10_finalizeMany : wdM MX10_finalizeMany ∈ lw_all := q2090
theorem nX10_finalizeMany : (parseMethodDescriptor MX10_finalizeMany.1.desc).map (fun d => d.parameters.length) = some 2 := by decide +kernel
abbrev MX10_folded : MI := (yX10_folded, cX10_folded, 4, (Option.none : Option Jvm.ClassFile.FieldType), none)
theorem wX10_folded : wdM MX10_folded ∈ lw_all := q1767
theorem nX10_folded : (parseMethodDescriptor MX10_folded.1.desc).map (fun d => d.parameters.length) = some 2 := by decide +kernel
abbrev MX10_folds : MI := (yX10_folds, cX10_folds, 6, (Option.none : Option Jvm.ClassFile.FieldType), none)
theorem wX10_folds : wdM MX10_folds ∈ lw_all := q1763
theorem nX10_folds : (parseMethodDescriptor MX10_folds.1.desc).map (fun d => d.parameters.length) = some 1 := by decide +kernel
abbrev MX10_gives : MI := (yX10_gives, cX10_gives, 5, (Option.some Jvm.ClassFile.FieldType.int), none)
theorem wX10_gives : wdM MX10_gives ∈ lw_all := q2013
theorem nX10_gives : (parseMethodDescriptor MX10_gives.1.desc).map (fun d => d.parameters.length) = some 2 := by decide +kernel
abbrev MX10_h2 : MI := (yX10_h2, cX10_h2, 2, (Option.none : Option Jvm.ClassFile.FieldType), none)
theorem wX10_h2 : wdM MX10_h2 ∈ lw_all := q1848
theorem nX10_h2 : (parseMethodDescriptor MX10_h2.1.desc).map (fun d => d.parameters.length) = some 0 := by decide +kernel
abbrev MX10_h3 : MI := (yX10_h3, cX10_h3, 2, (Option.none : Option Jvm.ClassFile.FieldType), none)
theorem wX10_h3 : wdM MX10_h3 ∈ lw_all := q1926
theorem nX10_h3 : (parseMethodDescriptor MX10_h3.1.desc).map (fun d => d.parameters.length) = some 0 := by decide +kernel
abbrev MX10_half : MI := (yX10_half, cX10_half, 4, (Option.none : Option Jvm.ClassFile.FieldType), none)
theorem wX10_half : wdM MX10_half ∈ lw_all := q1405
theorem nX10_half : (parseMethodDescriptor MX10_half.1.desc).map (fun d => d.parameters.length) = some 3 := by decide +kernel
abbrev MX10_halves : MI := (yX10_halves, cX10_halves, 3, (Option.none : Option Jvm.ClassFile.FieldType), none)
theorem wX10_halves : wdM MX10_halves ∈ lw_all := q1815
theorem nX10_halves : (parseMethodDescriptor MX10_halves.1.desc).map (fun d => d.parameters.length) = some 2 := by decide +kernel
abbrev MX10_init : MI := (yX10_init, cX10_init, 2, (Option.none : Option Jvm.ClassFile.FieldType), none)
theorem wX10_init : wdM MX10_init ∈ lw_all := q1329
theorem nX10_init : (parseMethodDescriptor MX10_init.1.desc).map (fun d => d.parameters.length) = some 0 := by decide +kernel
abbrev MX10_inverse : MI := (yX10_inverse, cX10_inverse, 7, (Option.some Jvm.ClassFile.FieldType.boolean), none)
theorem wX10_inverse : wdM MX10_inverse ∈ lw_all := q1812
theorem nX10_inverse : (parseMethodDescriptor MX10_inverse.1.desc).map (fun d => d.parameters.length) = some 3 := by decide +kernel
abbrev MX10_isAsking : MI := (yX10_isAsking, cX10_isAsking, 2, (Option.some Jvm.ClassFile.FieldType.boolean), none)
theorem wX10_isAsking : wdM MX10_isAsking ∈ lw_all := q2065
theorem nX10_isAsking : (parseMethodDescriptor MX10_isAsking.1.desc).map (fun d => d.parameters.length) = some 1 := by decide +kernel
abbrev MX10_isFree : MI := (yX10_isFree, cX10_isFree, 3, (Option.some Jvm.ClassFile.FieldType.boolean), none)
theorem wX10_isFree : wdM MX10_isFree ∈ lw_all := q2103
theorem nX10_isFree : (parseMethodDescriptor MX10_isFree.1.desc).map (fun d => d.parameters.length) = some 1 := by decide +kernel
abbrev MX10_isIn : MI := (yX10_isIn, cX10_isIn, 4, (Option.some Jvm.ClassFile.FieldType.boolean), none)
theorem wX10_isIn : wdM MX10_isIn ∈ lw_all := q2110
theorem nX10_isIn : (parseMethodDescriptor MX10_isIn.1.desc).map (fun d => d.parameters.length) = some 1 := by decide +kernel
abbrev MX10_isProved : MI := (yX10_isProved, cX10_isProved, 3, (Option.some Jvm.ClassFile.FieldType.boolean), none)
theorem wX10_isProved : wdM MX10_isProved ∈ lw_all := q2073
theorem nX10_isProved : (parseMethodDescriptor MX10_isProved.1.desc).map (fun d => d.parameters.length) = some 2 := by decide +kernel
abbrev MX10_isRight : MI := (yX10_isRight, cX10_isRight, 4, (Option.some Jvm.ClassFile.FieldType.boolean), none)
theorem wX10_isRight : wdM MX10_isRight ∈ lw_all := q2098
theorem nX10_isRight : (parseMethodDescriptor MX10_isRight.1.desc).map (fun d => d.parameters.length) = some 1 := by decide +kernel
abbrev MX10_isSecret : MI := (yX10_isSecret, cX10_isSecret, 1, (Option.some Jvm.ClassFile.FieldType.boolean), none)
theorem wX10_isSecret : wdM MX10_isSecret ∈ lw_all := q1736
theorem nX10_isSecret : (parseMethodDescriptor MX10_isSecret.1.desc).map (fun d => d.parameters.length) = some 1 := by decide +kernel
abbrev MX10_isSigned : MI := (yX10_isSigned, cX10_isSigned, 11, (Option.some Jvm.ClassFile.FieldType.boolean), none)
theorem wX10_isSigned : wdM MX10_isSigned ∈ lw_all := q2086
theorem nX10_isSigned : (parseMethodDescriptor MX10_isSigned.1.desc).map (fun d => d.parameters.length) = some 4 := by decide +kernel
abbrev MX10_isType : MI := (yX10_isType, cX10_isType, 2, (Option.some Jvm.ClassFile.FieldType.boolean), none)
theorem wX10_isType : wdM MX10_isType ∈ lw_all := q2005
theorem nX10_isType : (parseMethodDescriptor MX10_isType.1.desc).map (fun d => d.parameters.length) = some 1 := by decide +kernel
abbrev MX10_isZero : MI := (yX10_isZero, cX10_isZero, 4, (Option.some Jvm.ClassFile.FieldType.boolean), none)
theorem wX10_isZero : wdM MX10_isZero ∈ lw_all := q1739
theorem nX10_isZero : (parseMethodDescriptor MX10_isZero.1.desc).map (fun d => d.parameters.length) = some 2 := by decide +kernel
abbrev MX10_issue : MI := (yX10_issue, cX10_issue, 3, (Option.some Jvm.ClassFile.FieldType.int), none)
theorem wX10_issue : wdM MX10_issue ∈ lw_all := q2001
theorem nX10_issue : (parseMethodDescriptor MX10_issue.1.desc).map (fun d => d.parameters.length) = some 0 := by decide +kernel
abbrev MX10_issueMany : MI := (yX10_issueMany, cX10_issueMany, 4, (Option.some Jvm.ClassFile.FieldType.int), none)
theorem wX10_issueMany : wdM MX10_issueMany ∈ lw_all := q2057
theorem nX10_issueMany : (parseMethodDescriptor MX10_issueMany.1.desc).map (fun d => d.parameters.length) = some 1 := by decide +kernel
abbrev MX10_join : MI := (yX10_join, cX10_join, 6, (Option.none : Option Jvm.ClassFile.FieldType), none)
theorem wX10_join : wdM MX10_join ∈ lw_all := q1967
theorem nX10_join : (parseMethodDescriptor MX10_join.1.desc).map (fun d => d.parameters.length) = some 3 := by decide +kernel
abbrev MX10_key : MI := (yX10_key, cX10_key, 3, (Option.some Jvm.ClassFile.FieldType.int), none)
theorem wX10_key : wdM MX10_key ∈ lw_all := q1722
theorem nX10_key : (parseMethodDescriptor MX10_key.1.desc).map (fun d => d.parameters.length) = some 1 := by decide +kernel
abbrev MX10_keyId : MI := (yX10_keyId, cX10_keyId, 3, (Option.none : Option Jvm.ClassFile.FieldType), none)
theorem wX10_keyId : wdM MX10_keyId ∈ lw_all := q1826
theorem nX10_keyId : (parseMethodDescriptor MX10_keyId.1.desc).map (fun d => d.parameters.length) = some 1 := by decide +kernel
abbrev MX10_keyOf : MI := (yX10_keyOf, cX10_keyOf, 5, (Option.some Jvm.ClassFile.FieldType.int), none)
theorem wX10_keyOf : wdM MX10_keyOf ∈ lw_all := q2009
theorem nX10_keyOf : (parseMethodDescriptor MX10_keyOf.1.desc).map (fun d => d.parameters.length) = some 2 := by decide +kernel
abbrev MX10_keyOne : MI := (yX10_keyOne, cX10_keyOne, 2, (Option.some Jvm.ClassFile.FieldType.int), none)
theorem wX10_keyOne : wdM MX10_keyOne ∈ lw_all := q1730
theorem nX10_keyOne : (parseMethodDescriptor MX10_keyOne.1.desc).map (fun d => d.parameters.length) = some 1 := by decide +kernel
abbrev MX10_keyTwo : MI := (yX10_keyTwo, cX10_keyTwo, 6, (Option.some Jvm.ClassFile.FieldType.int), none)
theorem wX10_keyTwo : wdM MX10_keyTwo ∈ lw_all := q1868
theorem nX10_keyTwo : (parseMethodDescriptor MX10_keyTwo.1.desc).map (fun d => d.parameters.length) = some 1 := by decide +kernel
abbrev MX10_lays : MI := (yX10_lays, cX10_lays, 5, (Option.none : Option Jvm.ClassFile.FieldType), none)
theorem wX10_lays : wdM MX10_lays ∈ lw_all := q2030
theorem nX10_lays : (parseMethodDescriptor MX10_lays.1.desc).map (fun d => d.parameters.length) = some 3 := by decide +kernel
abbrev MX10_laysSpot : MI := (yX10_laysSpot, cX10_laysSpot, 2, (Option.none : Option Jvm.ClassFile.FieldType), none)
theorem wX10_laysSpot : wdM MX10_laysSpot ∈ lw_all := q2034
theorem nX10_laysSpot : (parseMethodDescriptor MX10_laysSpot.1.desc).map (fun d => d.parameters.length) = some 1 := by decide +kernel
abbrev MX10_laysWord : MI := (yX10_laysWord, cX10_laysWord, 3, (Option.none : Option Jvm.ClassFile.FieldType), none)
theorem wX10_laysWord : wdM MX10_laysWord ∈ lw_all := q2039
theorem nX10_laysWord : (parseMethodDescriptor MX10_laysWord.1.desc).map (fun d => d.parameters.length) = some 1 := by decide +kernel
abbrev MX10_load : MI := (yX10_load, cX10_load, 6, (Option.none : Option Jvm.ClassFile.FieldType), none)
theorem wX10_load : wdM MX10_load ∈ lw_all := q1733
theorem nX10_load : (parseMethodDescriptor MX10_load.1.desc).map (fun d => d.parameters.length) = some 5 := by decide +kernel
abbrev MX10_look : MI := (yX10_look, cX10_look, 4, (Option.some Jvm.ClassFile.FieldType.int), none)
theorem wX10_look : wdM MX10_look ∈ lw_all := q1881
theorem nX10_look : (parseMethodDescriptor MX10_look.1.desc).map (fun d => d.parameters.length) = some 2 := by decide +kernel
abbrev MX10_map : MI := (yX10_map, cX10_map, 4, (Option.none : Option Jvm.ClassFile.FieldType), none)
theorem wX10_map : wdM MX10_map ∈ lw_all := q1946
theorem nX10_map : (parseMethodDescriptor MX10_map.1.desc).map (fun d => d.parameters.length) = some 2 := by decide +kernel
abbrev MX10_masks : MI := (yX10_masks, cX10_masks, 6, (Option.none : Option Jvm.ClassFile.FieldType), none)
theorem wX10_masks : wdM MX10_masks ∈ lw_all := q1990
theorem nX10_masks : (parseMethodDescriptor MX10_masks.1.desc).map (fun d => d.parameters.length) = some 3 := by decide +kernel
abbrev MX10_minus : MI := (yX10_minus, cX10_minus, 7, (Option.some Jvm.ClassFile.FieldType.int), none)
theorem wX10_minus : wdM MX10_minus ∈ lw_all := q1408
theorem nX10_minus : (parseMethodDescriptor MX10_minus.1.desc).map (fun d => d.parameters.length) = some 4 := by decide +kernel
abbrev MX10_multiply : MI := (yX10_multiply, cX10_multiply, 6, (Option.none : Option Jvm.ClassFile.FieldType), none)
theorem wX10_multiply : wdM MX10_multiply ∈ lw_all := q1746
theorem nX10_multiply : (parseMethodDescriptor MX10_multiply.1.desc).map (fun d => d.parameters.length) = some 3 := by decide +kernel
abbrev MX10_noKey : MI := (yX10_noKey, cX10_noKey, 2, (Option.some Jvm.ClassFile.FieldType.boolean), none)
theorem wX10_noKey : wdM MX10_noKey ∈ lw_all := q1877
theorem nX10_noKey : (parseMethodDescriptor MX10_noKey.1.desc).map (fun d => d.parameters.length) = some 1 := by decide +kernel
abbrev MX10_out : MI := (yX10_out, cX10_out, 2, (Option.some Jvm.ClassFile.FieldType.int), none)
theorem wX10_out : wdM MX10_out ∈ lw_all := q1714
theorem nX10_out : (parseMethodDescriptor MX10_out.1.desc).map (fun d => d.parameters.length) = some 1 := by decide +kernel
abbrev MX10_output : MI := (yX10_output, cX10_output, 4, (Option.none : Option Jvm.ClassFile.FieldType), none)
theorem wX10_output : wdM MX10_output ∈ lw_all := q2077
theorem nX10_output : (parseMethodDescriptor MX10_output.1.desc).map (fun d => d.parameters.length) = some 3 := by decide +kernel
abbrev MX10_outs : MI := (yX10_outs, cX10_outs, 1, (Option.some Jvm.ClassFile.FieldType.int), none)
theorem wX10_outs : wdM MX10_outs ∈ lw_all := q1718
theorem nX10_outs : (parseMethodDescriptor MX10_outs.1.desc).map (fun d => d.parameters.length) = some 0 := by decide +kernel
abbrev MX10_pads : MI := (yX10_pads, cX10_pads, 6, (Option.none : Option Jvm.ClassFile.FieldType), none)
theorem wX10_pads : wdM MX10_pads ∈ lw_all := q1852
theorem nX10_pads : (parseMethodDescriptor MX10_pads.1.desc).map (fun d => d.parameters.length) = some 2 := by decide +kernel
abbrev MX10_plus : MI := (yX10_plus, cX10_plus, 7, (Option.some Jvm.ClassFile.FieldType.int), none)
theorem wX10_plus : wdM MX10_plus ∈ lw_all := q1398
theorem nX10_plus : (parseMethodDescriptor MX10_plus.1.desc).map (fun d => d.parameters.length) = some 4 := by decide +kernel
abbrev MX10_power : MI := (yX10_power, cX10_power, 7, (Option.none : Option Jvm.ClassFile.FieldType), none)
theorem wX10_power : wdM MX10_power ∈ lw_all := q1960
theorem nX10_power : (parseMethodDescriptor MX10_power.1.desc).map (fun d => d.parameters.length) = some 5 := by decide +kernel
abbrev MX10_power_2 : MI := (yX10_power_2, cX10_power_2, 1, (Option.some Jvm.ClassFile.FieldType.int), none)
theorem wX10_power_2 : wdM MX10_power_2 ∈ lw_all := q2118
theorem nX10_power_2 : (parseMethodDescriptor MX10_power_2.1.desc).map (fun d => d.parameters.length) = some 0 := by decide +kernel
abbrev MX10_proves : MI := (yX10_proves, cX10_proves, 4, (Option.some Jvm.ClassFile.FieldType.boolean), none)
theorem wX10_proves : wdM MX10_proves ∈ lw_all := q2021
theorem nX10_proves : (parseMethodDescriptor MX10_proves.1.desc).map (fun d => d.parameters.length) = some 3 := by decide +kernel
abbrev MX10_redeem : MI := (yX10_redeem, cX10_redeem, 9, (Option.some Jvm.ClassFile.FieldType.int), none)
theorem wX10_redeem : wdM MX10_redeem ∈ lw_all := q2094
theorem nX10_redeem : (parseMethodDescriptor MX10_redeem.1.desc).map (fun d => d.parameters.length) = some 0 := by decide +kernel
abbrev MX10_request : MI := (yX10_request, cX10_request, 6, (Option.some Jvm.ClassFile.FieldType.int), none)
theorem wX10_request : wdM MX10_request ∈ lw_all := q1889
theorem nX10_request : (parseMethodDescriptor MX10_request.1.desc).map (fun d => d.parameters.length) = some 1 := by decide +kernel
abbrev MX10_rest : MI := (yX10_rest, cX10_rest, 15, (Option.none : Option Jvm.ClassFile.FieldType), none)
theorem wX10_rest : wdM MX10_rest ∈ lw_all := q1775
theorem nX10_rest : (parseMethodDescriptor MX10_rest.1.desc).map (fun d => d.parameters.length) = some 3 := by decide +kernel
abbrev MX10_retire : MI := (yX10_retire, cX10_retire, 3, (Option.some Jvm.ClassFile.FieldType.boolean), none)
theorem wX10_retire : wdM MX10_retire ∈ lw_all := q1873
theorem nX10_retire : (parseMethodDescriptor MX10_retire.1.desc).map (fun d => d.parameters.length) = some 1 := by decide +kernel
abbrev MX10_roll : MI := (yX10_roll, cX10_roll, 2, (Option.some Jvm.ClassFile.FieldType.int), none)
theorem wX10_roll : wdM MX10_roll ∈ lw_all := q1862
theorem nX10_roll : (parseMethodDescriptor MX10_roll.1.desc).map (fun d => d.parameters.length) = some 2 := by decide +kernel
abbrev MX10_roll_2 : MI := (yX10_roll_2, cX10_roll_2, 3, (Option.some Jvm.ClassFile.FieldType.long), none)
theorem wX10_roll_2 : wdM MX10_roll_2 ∈ lw_all := q1935
theorem nX10_roll_2 : (parseMethodDescriptor MX10_roll_2.1.desc).map (fun d => d.parameters.length) = some 2 := by decide +kernel
abbrev MX10_root : MI := (yX10_root, cX10_root, 3, (Option.some Jvm.ClassFile.FieldType.boolean), none)
theorem wX10_root : wdM MX10_root ∈ lw_all := q1956
theorem nX10_root : (parseMethodDescriptor MX10_root.1.desc).map (fun d => d.parameters.length) = some 2 := by decide +kernel
abbrev MX10_salted : MI := (yX10_salted, cX10_salted, 7, (Option.none : Option Jvm.ClassFile.FieldType), none)
theorem wX10_salted : wdM MX10_salted ∈ lw_all := q1986
theorem nX10_salted : (parseMethodDescriptor MX10_salted.1.desc).map (fun d => d.parameters.length) = some 5 := by decide +kernel
abbrev MX10_say : MI := (yX10_say, cX10_say, 5, (Option.none : Option Jvm.ClassFile.FieldType), none)
theorem wX10_say : wdM MX10_say ∈ lw_all := q1836
theorem nX10_say : (parseMethodDescriptor MX10_say.1.desc).map (fun d => d.parameters.length) = some 3 := by decide +kernel
abbrev MX10_say_2 : MI := (yX10_say_2, cX10_say_2, 2, (Option.none : Option Jvm.ClassFile.FieldType), none)
theorem wX10_say_2 : wdM MX10_say_2 ∈ lw_all := q1840
theorem nX10_say_2 : (parseMethodDescriptor MX10_say_2.1.desc).map (fun d => d.parameters.length) = some 1 := by decide +kernel
abbrev MX10_signs : MI := (yX10_signs, cX10_signs, 3, (Option.some Jvm.ClassFile.FieldType.int), none)
theorem wX10_signs : wdM MX10_signs ∈ lw_all := q2053
theorem nX10_signs : (parseMethodDescriptor MX10_signs.1.desc).map (fun d => d.parameters.length) = some 1 := by decide +kernel
abbrev MX10_slot : MI := (yX10_slot, cX10_slot, 1, (Option.some Jvm.ClassFile.FieldType.int), none)
theorem wX10_slot : wdM MX10_slot ∈ lw_all := q2106
theorem nX10_slot : (parseMethodDescriptor MX10_slot.1.desc).map (fun d => d.parameters.length) = some 1 := by decide +kernel
abbrev MX10_small : MI := (yX10_small, cX10_small, 4, (Option.none : Option Jvm.ClassFile.FieldType), none)
theorem wX10_small : wdM MX10_small ∈ lw_all := q1395
theorem nX10_small : (parseMethodDescriptor MX10_small.1.desc).map (fun d => d.parameters.length) = some 3 := by decide +kernel
abbrev MX10_spent : MI := (yX10_spent, cX10_spent, 3, (Option.some Jvm.ClassFile.FieldType.int), none)
theorem wX10_spent : wdM MX10_spent ∈ lw_all := q2122
theorem nX10_spent : (parseMethodDescriptor MX10_spent.1.desc).map (fun d => d.parameters.length) = some 0 := by decide +kernel
abbrev MX10_steps : MI := (yX10_steps, cX10_steps, 1, (Option.some Jvm.ClassFile.FieldType.boolean), none)
theorem wX10_steps : wdM MX10_steps ∈ lw_all := q1808
theorem nX10_steps : (parseMethodDescriptor MX10_steps.1.desc).map (fun d => d.parameters.length) = some 0 := by decide +kernel
abbrev MX10_store : MI := (yX10_store, cX10_store, 5, (Option.none : Option Jvm.ClassFile.FieldType), none)
theorem wX10_store : wdM MX10_store ∈ lw_all := q1832
theorem nX10_store : (parseMethodDescriptor MX10_store.1.desc).map (fun d => d.parameters.length) = some 4 := by decide +kernel
abbrev MX10_sub : MI := (yX10_sub, cX10_sub, 5, (Option.none : Option Jvm.ClassFile.FieldType), none)
theorem wX10_sub : wdM MX10_sub ∈ lw_all := q1797
theorem nX10_sub : (parseMethodDescriptor MX10_sub.1.desc).map (fun d => d.parameters.length) = some 4 := by decide +kernel
abbrev MX10_swap : MI := (yX10_swap, cX10_swap, 5, (Option.none : Option Jvm.ClassFile.FieldType), none)
theorem wX10_swap : wdM MX10_swap ∈ lw_all := q1818
theorem nX10_swap : (parseMethodDescriptor MX10_swap.1.desc).map (fun d => d.parameters.length) = some 3 := by decide +kernel
abbrev MX10_tags : MI := (yX10_tags, cX10_tags, 3, (Option.none : Option Jvm.ClassFile.FieldType), none)
theorem wX10_tags : wdM MX10_tags ∈ lw_all := q1902
theorem nX10_tags : (parseMethodDescriptor MX10_tags.1.desc).map (fun d => d.parameters.length) = some 1 := by decide +kernel
abbrev MX10_takes : MI := (yX10_takes, cX10_takes, 10, (Option.none : Option Jvm.ClassFile.FieldType), none)
theorem wX10_takes : wdM MX10_takes ∈ lw_all := q1794
theorem nX10_takes : (parseMethodDescriptor MX10_takes.1.desc).map (fun d => d.parameters.length) = some 3 := by decide +kernel
abbrev MX10_thrown : MI := (yX10_thrown, cX10_thrown, 1, (Option.some Jvm.ClassFile.FieldType.int), none)
theorem wX10_thrown : wdM MX10_thrown ∈ lw_all := q1324
theorem nX10_thrown : (parseMethodDescriptor MX10_thrown.1.desc).map (fun d => d.parameters.length) = some 0 := by decide +kernel
abbrev MX10_times : MI := (yX10_times, cX10_times, 10, (Option.none : Option Jvm.ClassFile.FieldType), none)
theorem wX10_times : wdM MX10_times ∈ lw_all := q1759
theorem nX10_times : (parseMethodDescriptor MX10_times.1.desc).map (fun d => d.parameters.length) = some 4 := by decide +kernel
abbrev MX10_toPoint : MI := (yX10_toPoint, cX10_toPoint, 6, (Option.none : Option Jvm.ClassFile.FieldType), none)
theorem wX10_toPoint : wdM MX10_toPoint ∈ lw_all := q1897
theorem nX10_toPoint : (parseMethodDescriptor MX10_toPoint.1.desc).map (fun d => d.parameters.length) = some 4 := by decide +kernel
abbrev MX10_toScalar : MI := (yX10_toScalar, cX10_toScalar, 2, (Option.none : Option Jvm.ClassFile.FieldType), none)
theorem wX10_toScalar : wdM MX10_toScalar ∈ lw_all := q2043
theorem nX10_toScalar : (parseMethodDescriptor MX10_toScalar.1.desc).map (fun d => d.parameters.length) = some 1 := by decide +kernel
abbrev MX10_turn : MI := (yX10_turn, cX10_turn, 2, (Option.none : Option Jvm.ClassFile.FieldType), none)
theorem wX10_turn : wdM MX10_turn ∈ lw_all := q1963
theorem nX10_turn : (parseMethodDescriptor MX10_turn.1.desc).map (fun d => d.parameters.length) = some 1 := by decide +kernel
abbrev MX10_u : MI := (yX10_u, cX10_u, 1, (Option.some Jvm.ClassFile.FieldType.long), none)
theorem wX10_u : wdM MX10_u ∈ lw_all := q1401
theorem nX10_u : (parseMethodDescriptor MX10_u.1.desc).map (fun d => d.parameters.length) = some 1 := by decide +kernel
abbrev MX10_used : MI := (yX10_used, cX10_used, 2, (Option.some Jvm.ClassFile.FieldType.int), none)
theorem wX10_used : wdM MX10_used ∈ lw_all := q1726
theorem nX10_used : (parseMethodDescriptor MX10_used.1.desc).map (fun d => d.parameters.length) = some 0 := by decide +kernel
abbrev MX10_wideBlock : MI := (yX10_wideBlock, cX10_wideBlock, 23, (Option.none : Option Jvm.ClassFile.FieldType), none)
theorem wX10_wideBlock : wdM MX10_wideBlock ∈ lw_all := q1932
theorem nX10_wideBlock : (parseMethodDescriptor MX10_wideBlock.1.desc).map (fun d => d.parameters.length) = some 1 := by decide +kernel
abbrev MX10_word : MI := (yX10_word, cX10_word, 3, (Option.none : Option Jvm.ClassFile.FieldType), none)
theorem wX10_word : wdM MX10_word ∈ lw_all := q1906
theorem nX10_word : (parseMethodDescriptor MX10_word.1.desc).map (fun d => d.parameters.length) = some 1 := by decide +kernel
abbrev MX11_bits : MI := (yX11_bits, cX11_bits, 1, (Option.some Jvm.ClassFile.FieldType.int), none)
theorem wX11_bits : wdM MX11_bits ∈ lw_all := q1982
theorem nX11_bits : (parseMethodDescriptor MX11_bits.1.desc).map (fun d => d.parameters.length) = some 0 := by decide +kernel
abbrev MX11_init : MI := (yX11_init, cX11_init, 1, (Option.none : Option Jvm.ClassFile.FieldType), none)
theorem wX11_init : wdM MX11_init ∈ lw_all := q1335
theorem nX11_init : (parseMethodDescriptor MX11_init.1.desc).map (fun d => d.parameters.length) = some 0 := by decide +kernel
abbrev MX11_is : MI := (yX11_is, cX11_is, 4, (Option.none : Option Jvm.ClassFile.FieldType), none)
theorem wX11_is : wdM MX11_is ∈ lw_all := q1382
theorem nX11_is : (parseMethodDescriptor MX11_is.1.desc).map (fun d => d.parameters.length) = some 2 := by decide +kernel
abbrev MX12_init : MI := (yX12_init, cX12_init, 1, (Option.none : Option Jvm.ClassFile.FieldType), none)
theorem wX12_init : wdM MX12_init ∈ lw_all := q1358
theorem nX12_init : (parseMethodDescriptor MX12_init.1.desc).map (fun d => d.parameters.length) = some 0 := by decide +kernel
abbrev MX12_is : MI := (yX12_is, cX12_is, 2, (Option.none : Option Jvm.ClassFile.FieldType), none)
theorem wX12_is : wdM MX12_is ∈ lw_all := q1750
theorem nX12_is : (parseMethodDescriptor MX12_is.1.desc).map (fun d => d.parameters.length) = some 1 := by decide +kernel
abbrev MX13_init : MI := (yX13_init, cX13_init, 2, (Option.none : Option Jvm.ClassFile.FieldType), none)
theorem wX13_init : wdM MX13_init ∈ lw_all := q610
theorem nX13_init : (parseMethodDescriptor MX13_init.1.desc).map (fun d => d.parameters.length) = some 1 := by decide +kernel
abbrev MX14_answers : MI := (yX14_answers, cX14_answers, 2, (Option.some Jvm.ClassFile.FieldType.int), none)
theorem wX14_answers : wdM MX14_answers ∈ lw_all := q1162
theorem nX14_answers : (parseMethodDescriptor MX14_answers.1.desc).map (fun d => d.parameters.length) = some 1 := by decide +kernel
abbrev MX14_blind : MI := (yX14_blind, cX14_blind, 1, (Option.some Jvm.ClassFile.FieldType.int), none)
theorem wX14_blind : wdM MX14_blind ∈ lw_all := q919
theorem nX14_blind : (parseMethodDescriptor MX14_blind.1.desc).map (fun d => d.parameters.length) = some 0 := by decide +kernel
abbrev MX14_blinded : MI := (yX14_blinded, cX14_blinded, 1, (Option.some Jvm.ClassFile.FieldType.int), none)
theorem wX14_blinded : wdM MX14_blinded ∈ lw_all := q1084
theorem nX14_blinded : (parseMethodDescriptor MX14_blinded.1.desc).map (fun d => d.parameters.length) = some 0 := by decide +kernel
abbrev MX14_blinds : MI := (yX14_blinds, cX14_blinds, 6, (Option.some (Jvm.ClassFile.FieldType.array Jvm.ClassFile.FieldType.int)), none)
theorem wX14_blinds : wdM MX14_blinds ∈ lw_all := q929
theorem nX14_blinds : (parseMethodDescriptor MX14_blinds.1.desc).map (fun d => d.parameters.length) = some 5 := by decide +kernel
abbrev MX14_challenge : MI := (yX14_challenge, cX14_challenge, 6, (Option.none : Option Jvm.ClassFile.FieldType), none)
theorem wX14_challenge : wdM MX14_challenge ∈ lw_all := q1146
theorem nX14_challenge : (parseMethodDescriptor MX14_challenge.1.desc).map (fun d => d.parameters.length) = some 3 := by decide +kernel
abbrev MX14_chance : MI := (yX14_chance, cX14_chance, 1, (Option.some Jvm.ClassFile.FieldType.int), none)
theorem wX14_chance : wdM MX14_chance ∈ lw_all := q1105
theorem nX14_chance : (parseMethodDescriptor MX14_chance.1.desc).map (fun d => d.parameters.length) = some 0 := by decide +kernel
abbrev MX14_composites : MI := (yX14_composites, cX14_composites, 10, (Option.none : Option Jvm.ClassFile.FieldType), none)
theorem wX14_composites : wdM MX14_composites ∈ lw_all := q1127
theorem nX14_composites : (parseMethodDescriptor MX14_composites.1.desc).map (fun d => d.parameters.length) = some 6 := by decide +kernel
abbrev MX14_finishes : MI := (yX14_finishes, cX14_finishes, 15, (Option.none : Option Jvm.ClassFile.FieldType), none)
theorem wX14_finishes : wdM MX14_finishes ∈ lw_all := q1306
theorem nX14_finishes : (parseMethodDescriptor MX14_finishes.1.desc).map (fun d => d.parameters.length) = some 5 := by decide +kernel
abbrev MX14_group : MI := (yX14_group, cX14_group, 4, (Option.none : Option Jvm.ClassFile.FieldType), none)
theorem wX14_group : wdM MX14_group ∈ lw_all := q933
theorem nX14_group : (parseMethodDescriptor MX14_group.1.desc).map (fun d => d.parameters.length) = some 3 := by decide +kernel
abbrev MX14_init : MI := (yX14_init, cX14_init, 5, (Option.none : Option Jvm.ClassFile.FieldType), none)
theorem wX14_init : wdM MX14_init ∈ lw_all := q607
theorem nX14_init : (parseMethodDescriptor MX14_init.1.desc).map (fun d => d.parameters.length) = some 3 := by decide +kernel
abbrev MX14_isRight : MI := (yX14_isRight, cX14_isRight, 7, (Option.some Jvm.ClassFile.FieldType.boolean), none)
theorem wX14_isRight : wdM MX14_isRight ∈ lw_all := q1192
theorem nX14_isRight : (parseMethodDescriptor MX14_isRight.1.desc).map (fun d => d.parameters.length) = some 4 := by decide +kernel
abbrev MX14_isSecret : MI := (yX14_isSecret, cX14_isSecret, 4, (Option.some Jvm.ClassFile.FieldType.boolean), none)
theorem wX14_isSecret : wdM MX14_isSecret ∈ lw_all := q617
theorem nX14_isSecret : (parseMethodDescriptor MX14_isSecret.1.desc).map (fun d => d.parameters.length) = some 3 := by decide +kernel
abbrev MX14_issues : MI := (yX14_issues, cX14_issues, 6, (Option.none : Option Jvm.ClassFile.FieldType), none)
theorem wX14_issues : wdM MX14_issues ∈ lw_all := q1114
theorem nX14_issues : (parseMethodDescriptor MX14_issues.1.desc).map (fun d => d.parameters.length) = some 4 := by decide +kernel
abbrev MX14_output : MI := (yX14_output, cX14_output, 6, (Option.none : Option Jvm.ClassFile.FieldType), none)
theorem wX14_output : wdM MX14_output ∈ lw_all := q1196
theorem nX14_output : (parseMethodDescriptor MX14_output.1.desc).map (fun d => d.parameters.length) = some 4 := by decide +kernel
abbrev MX14_proved : MI := (yX14_proved, cX14_proved, 1, (Option.some Jvm.ClassFile.FieldType.int), none)
theorem wX14_proved : wdM MX14_proved ∈ lw_all := q1183
theorem nX14_proved : (parseMethodDescriptor MX14_proved.1.desc).map (fun d => d.parameters.length) = some 0 := by decide +kernel
abbrev MX14_publics : MI := (yX14_publics, cX14_publics, 1, (Option.some Jvm.ClassFile.FieldType.int), none)
theorem wX14_publics : wdM MX14_publics ∈ lw_all := q845
theorem nX14_publics : (parseMethodDescriptor MX14_publics.1.desc).map (fun d => d.parameters.length) = some 0 := by decide +kernel
abbrev MX14_publish : MI := (yX14_publish, cX14_publish, 2, (Option.none : Option Jvm.ClassFile.FieldType), none)
theorem wX14_publish : wdM MX14_publish ∈ lw_all := q809
theorem nX14_publish : (parseMethodDescriptor MX14_publish.1.desc).map (fun d => d.parameters.length) = some 1 := by decide +kernel
abbrev MX14_read : MI := (yX14_read, cX14_read, 4, (Option.none : Option Jvm.ClassFile.FieldType), none)
theorem wX14_read : wdM MX14_read ∈ lw_all := q1118
theorem nX14_read : (parseMethodDescriptor MX14_read.1.desc).map (fun d => d.parameters.length) = some 3 := by decide +kernel
abbrev MX14_write : MI := (yX14_write, cX14_write, 4, (Option.none : Option Jvm.ClassFile.FieldType), none)
theorem wX14_write : wdM MX14_write ∈ lw_all := q1020
theorem nX14_write : (parseMethodDescriptor MX14_write.1.desc).map (fun d => d.parameters.length) = some 3 := by decide +kernel
abbrev MX15_answers : MI := (yX15_answers, cX15_answers, 2, (Option.some Jvm.ClassFile.FieldType.int), none)
theorem wX15_answers : wdM MX15_answers ∈ lw_all := q1165
theorem nX15_answers : (parseMethodDescriptor MX15_answers.1.desc).map (fun d => d.parameters.length) = some 1 := by decide +kernel
abbrev MX15_blind : MI := (yX15_blind, cX15_blind, 1, (Option.some Jvm.ClassFile.FieldType.int), none)
theorem wX15_blind : wdM MX15_blind ∈ lw_all := q922
theorem nX15_blind : (parseMethodDescriptor MX15_blind.1.desc).map (fun d => d.parameters.length) = some 0 := by decide +kernel
abbrev MX15_blinded : MI := (yX15_blinded, cX15_blinded, 1, (Option.some Jvm.ClassFile.FieldType.int), none)
theorem wX15_blinded : wdM MX15_blinded ∈ lw_all := q1087
theorem nX15_blinded : (parseMethodDescriptor MX15_blinded.1.desc).map (fun d => d.parameters.length) = some 0 := by decide +kernel
abbrev MX15_blinds : MI := (yX15_blinds, cX15_blinds, 11, (Option.some (Jvm.ClassFile.FieldType.array Jvm.ClassFile.FieldType.int)), none)
theorem wX15_blinds : wdM MX15_blinds ∈ lw_all := q1025
theorem nX15_blinds : (parseMethodDescriptor MX15_blinds.1.desc).map (fun d => d.parameters.length) = some 5 := by decide +kernel
abbrev MX15_chance : MI := (yX15_chance, cX15_chance, 1, (Option.some Jvm.ClassFile.FieldType.int), none)
theorem wX15_chance : wdM MX15_chance ∈ lw_all := q1108
theorem nX15_chance : (parseMethodDescriptor MX15_chance.1.desc).map (fun d => d.parameters.length) = some 0 := by decide +kernel
abbrev MX15_encode : MI := (yX15_encode, cX15_encode, 9, (Option.none : Option Jvm.ClassFile.FieldType), none)
theorem wX15_encode : wdM MX15_encode ∈ lw_all := q1029
theorem nX15_encode : (parseMethodDescriptor MX15_encode.1.desc).map (fun d => d.parameters.length) = some 4 := by decide +kernel
abbrev MX15_finishes : MI := (yX15_finishes, cX15_finishes, 7, (Option.none : Option Jvm.ClassFile.FieldType), none)
theorem wX15_finishes : wdM MX15_finishes ∈ lw_all := q1312
theorem nX15_finishes : (parseMethodDescriptor MX15_finishes.1.desc).map (fun d => d.parameters.length) = some 5 := by decide +kernel
abbrev MX15_init : MI := (yX15_init, cX15_init, 10, (Option.none : Option Jvm.ClassFile.FieldType), none)
theorem wX15_init : wdM MX15_init ∈ lw_all := q745
theorem nX15_init : (parseMethodDescriptor MX15_init.1.desc).map (fun d => d.parameters.length) = some 4 := by decide +kernel
abbrev MX15_isCode : MI := (yX15_isCode, cX15_isCode, 11, (Option.some Jvm.ClassFile.FieldType.boolean), none)
theorem wX15_isCode : wdM MX15_isCode ∈ lw_all := q1204
theorem nX15_isCode : (parseMethodDescriptor MX15_isCode.1.desc).map (fun d => d.parameters.length) = some 2 := by decide +kernel
abbrev MX15_isRight : MI := (yX15_isRight, cX15_isRight, 5, (Option.some Jvm.ClassFile.FieldType.boolean), none)
theorem wX15_isRight : wdM MX15_isRight ∈ lw_all := q1200
theorem nX15_isRight : (parseMethodDescriptor MX15_isRight.1.desc).map (fun d => d.parameters.length) = some 4 := by decide +kernel
abbrev MX15_issues : MI := (yX15_issues, cX15_issues, 5, (Option.none : Option Jvm.ClassFile.FieldType), none)
theorem wX15_issues : wdM MX15_issues ∈ lw_all := q1154
theorem nX15_issues : (parseMethodDescriptor MX15_issues.1.desc).map (fun d => d.parameters.length) = some 4 := by decide +kernel
abbrev MX15_length : MI := (yX15_length, cX15_length, 1, (Option.some Jvm.ClassFile.FieldType.int), none)
theorem wX15_length : wdM MX15_length ∈ lw_all := q1033
theorem nX15_length : (parseMethodDescriptor MX15_length.1.desc).map (fun d => d.parameters.length) = some 0 := by decide +kernel
abbrev MX15_mask : MI := (yX15_mask, cX15_mask, 8, (Option.none : Option Jvm.ClassFile.FieldType), none)
theorem wX15_mask : wdM MX15_mask ∈ lw_all := q1049
theorem nX15_mask : (parseMethodDescriptor MX15_mask.1.desc).map (fun d => d.parameters.length) = some 4 := by decide +kernel
abbrev MX15_proved : MI := (yX15_proved, cX15_proved, 1, (Option.some Jvm.ClassFile.FieldType.int), none)
theorem wX15_proved : wdM MX15_proved ∈ lw_all := q1186
theorem nX15_proved : (parseMethodDescriptor MX15_proved.1.desc).map (fun d => d.parameters.length) = some 0 := by decide +kernel
abbrev MX15_publics : MI := (yX15_publics, cX15_publics, 1, (Option.some Jvm.ClassFile.FieldType.int), none)
theorem wX15_publics : wdM MX15_publics ∈ lw_all := q848
theorem nX15_publics : (parseMethodDescriptor MX15_publics.1.desc).map (fun d => d.parameters.length) = some 0 := by decide +kernel
abbrev MX15_publish : MI := (yX15_publish, cX15_publish, 2, (Option.none : Option Jvm.ClassFile.FieldType), none)
theorem wX15_publish : wdM MX15_publish ∈ lw_all := q813
theorem nX15_publish : (parseMethodDescriptor MX15_publish.1.desc).map (fun d => d.parameters.length) = some 1 := by decide +kernel
abbrev MX15_salted : MI := (yX15_salted, cX15_salted, 6, (Option.some (Jvm.ClassFile.FieldType.array Jvm.ClassFile.FieldType.byte)), none)
theorem wX15_salted : wdM MX15_salted ∈ lw_all := q1037
theorem nX15_salted : (parseMethodDescriptor MX15_salted.1.desc).map (fun d => d.parameters.length) = some 4 := by decide +kernel
abbrev MX16_init : MI := (yX16_init, cX16_init, 4, (Option.none : Option Jvm.ClassFile.FieldType), none)
theorem wX16_init : wdM MX16_init ∈ lw_all := q1058
theorem nX16_init : (parseMethodDescriptor MX16_init.1.desc).map (fun d => d.parameters.length) = some 3 := by decide +kernel
abbrev MX2_begin : MI := (yX2_begin, cX2_begin, 1, (Option.some (Jvm.ClassFile.FieldType.object "VeilMint$Digest")), none)
theorem wX2_begin : wdM MX2_begin ∈ lw_all := q819
theorem nX2_begin : (parseMethodDescriptor MX2_begin.1.desc).map (fun d => d.parameters.length) = some 0 := by decide +kernel
abbrev MX2_end : MI := (yX2_end, cX2_end, 5, (Option.some (Jvm.ClassFile.FieldType.array Jvm.ClassFile.FieldType.byte)), none)
theorem wX2_end : wdM MX2_end ∈ lw_all := q890
theorem nX2_end : (parseMethodDescriptor MX2_end.1.desc).map (fun d => d.parameters.length) = some 0 := by decide +kernel
abbrev MX2_init : MI := (yX2_init, cX2_init, 3, (Option.none : Option Jvm.ClassFile.FieldType), none)
theorem wX2_init : wdM MX2_init ∈ lw_all := q140
theorem nX2_init : (parseMethodDescriptor MX2_init.1.desc).map (fun d => d.parameters.length) = some 2 := by decide +kernel
abbrev MX2_put : MI := (yX2_put, cX2_put, 5, (Option.some (Jvm.ClassFile.FieldType.object "VeilMint$Digest")), none)
theorem wX2_put : wdM MX2_put ∈ lw_all := q854
theorem nX2_put : (parseMethodDescriptor MX2_put.1.desc).map (fun d => d.parameters.length) = some 3 := by decide +kernel
abbrev MX2_put_2 : MI := (yX2_put_2, cX2_put_2, 2, (Option.some (Jvm.ClassFile.FieldType.object "VeilMint$Digest")), none)
theorem wX2_put_2 : wdM MX2_put_2 ∈ lw_all := q860
theorem nX2_put_2 : (parseMethodDescriptor MX2_put_2.1.desc).map (fun d => d.parameters.length) = some 1 := by decide +kernel
abbrev MX2_two : MI := (yX2_two, cX2_two, 2, (Option.some (Jvm.ClassFile.FieldType.object "VeilMint$Digest")), none)
theorem wX2_two : wdM MX2_two ∈ lw_all := q960
theorem nX2_two : (parseMethodDescriptor MX2_two.1.desc).map (fun d => d.parameters.length) = some 1 := by decide +kernel
abbrev MX2_word : MI := (yX2_word, cX2_word, 3, (Option.some (Jvm.ClassFile.FieldType.object "VeilMint$Digest")), none)
theorem wX2_word : wdM MX2_word ∈ lw_all := q971
theorem nX2_word : (parseMethodDescriptor MX2_word.1.desc).map (fun d => d.parameters.length) = some 1 := by decide +kernel
abbrev MX3_init : MI := (yX3_init, cX3_init, 1, (Option.none : Option Jvm.ClassFile.FieldType), none)
theorem wX3_init : wdM MX3_init ∈ lw_all := q137
theorem nX3_init : (parseMethodDescriptor MX3_init.1.desc).map (fun d => d.parameters.length) = some 0 := by decide +kernel
abbrev MX3_mix : MI := (yX3_mix, cX3_mix, 12, (Option.none : Option Jvm.ClassFile.FieldType), none)
theorem wX3_mix : wdM MX3_mix ∈ lw_all := q866
theorem nX3_mix : (parseMethodDescriptor MX3_mix.1.desc).map (fun d => d.parameters.length) = some 0 := by decide +kernel
abbrev MX3_start : MI := (yX3_start, cX3_start, 1, (Option.none : Option Jvm.ClassFile.FieldType), none)
theorem wX3_start : wdM MX3_start ∈ lw_all := q825
theorem nX3_start : (parseMethodDescriptor MX3_start.1.desc).map (fun d => d.parameters.length) = some 0 := by decide +kernel
abbrev MX3_tell : MI := (yX3_tell, cX3_tell, 2, (Option.none : Option Jvm.ClassFile.FieldType), none)
theorem wX3_tell : wdM MX3_tell ∈ lw_all := q897
theorem nX3_tell : (parseMethodDescriptor MX3_tell.1.desc).map (fun d => d.parameters.length) = some 0 := by decide +kernel
abbrev MX4_init : MI := (yX4_init, cX4_init, 1, (Option.none : Option Jvm.ClassFile.FieldType), none)
theorem wX4_init : wdM MX4_init ∈ lw_all := q175
theorem nX4_init : (parseMethodDescriptor MX4_init.1.desc).map (fun d => d.parameters.length) = some 0 := by decide +kernel
abbrev MX4_mix : MI := (yX4_mix, cX4_mix, 22, (Option.none : Option Jvm.ClassFile.FieldType), none)
theorem wX4_mix : wdM MX4_mix ∈ lw_all := q874
theorem nX4_mix : (parseMethodDescriptor MX4_mix.1.desc).map (fun d => d.parameters.length) = some 0 := by decide +kernel
abbrev MX4_start : MI := (yX4_start, cX4_start, 1, (Option.none : Option Jvm.ClassFile.FieldType), none)
theorem wX4_start : wdM MX4_start ∈ lw_all := q836
theorem nX4_start : (parseMethodDescriptor MX4_start.1.desc).map (fun d => d.parameters.length) = some 0 := by decide +kernel
abbrev MX4_tell : MI := (yX4_tell, cX4_tell, 2, (Option.none : Option Jvm.ClassFile.FieldType), none)
theorem wX4_tell : wdM MX4_tell ∈ lw_all := q900
theorem nX4_tell : (parseMethodDescriptor MX4_tell.1.desc).map (fun d => d.parameters.length) = some 0 := by decide +kernel
abbrev MX5_add : MI := (yX5_add, cX5_add, 3, (Option.none : Option Jvm.ClassFile.FieldType), none)
theorem wX5_add : wdM MX5_add ∈ lw_all := q659
theorem nX5_add : (parseMethodDescriptor MX5_add.1.desc).map (fun d => d.parameters.length) = some 2 := by decide +kernel
abbrev MX5_begin : MI := (yX5_begin, cX5_begin, 2, (Option.some (Jvm.ClassFile.FieldType.object "VeilMint$Digest")), none)
theorem wX5_begin : wdM MX5_begin ∈ lw_all := q937
theorem nX5_begin : (parseMethodDescriptor MX5_begin.1.desc).map (fun d => d.parameters.length) = some 0 := by decide +kernel
abbrev MX5_expand : MI := (yX5_expand, cX5_expand, 6, (Option.none : Option Jvm.ClassFile.FieldType), none)
theorem wX5_expand : wdM MX5_expand ∈ lw_all := q953
theorem nX5_expand : (parseMethodDescriptor MX5_expand.1.desc).map (fun d => d.parameters.length) = some 2 := by decide +kernel
abbrev MX5_firstX : MI := (yX5_firstX, cX5_firstX, 4, (Option.none : Option Jvm.ClassFile.FieldType), none)
theorem wX5_firstX : wdM MX5_firstX ∈ lw_all := q992
theorem nX5_firstX : (parseMethodDescriptor MX5_firstX.1.desc).map (fun d => d.parameters.length) = some 2 := by decide +kernel
abbrev MX5_group : MI := (yX5_group, cX5_group, 2, (Option.none : Option Jvm.ClassFile.FieldType), none)
theorem wX5_group : wdM MX5_group ∈ lw_all := q948
theorem nX5_group : (parseMethodDescriptor MX5_group.1.desc).map (fun d => d.parameters.length) = some 1 := by decide +kernel
abbrev MX5_init : MI := (yX5_init, cX5_init, 5, (Option.none : Option Jvm.ClassFile.FieldType), none)
theorem wX5_init : wdM MX5_init ∈ lw_all := q193
theorem nX5_init : (parseMethodDescriptor MX5_init.1.desc).map (fun d => d.parameters.length) = some 1 := by decide +kernel
abbrev MX5_map : MI := (yX5_map, cX5_map, 4, (Option.none : Option Jvm.ClassFile.FieldType), none)
theorem wX5_map : wdM MX5_map ∈ lw_all := q984
theorem nX5_map : (parseMethodDescriptor MX5_map.1.desc).map (fun d => d.parameters.length) = some 2 := by decide +kernel
abbrev MX5_negate : MI := (yX5_negate, cX5_negate, 3, (Option.none : Option Jvm.ClassFile.FieldType), none)
theorem wX5_negate : wdM MX5_negate ∈ lw_all := q1016
theorem nX5_negate : (parseMethodDescriptor MX5_negate.1.desc).map (fun d => d.parameters.length) = some 1 := by decide +kernel
abbrev MX5_negateInto : MI := (yX5_negateInto, cX5_negateInto, 4, (Option.none : Option Jvm.ClassFile.FieldType), none)
theorem wX5_negateInto : wdM MX5_negateInto ∈ lw_all := q996
theorem nX5_negateInto : (parseMethodDescriptor MX5_negateInto.1.desc).map (fun d => d.parameters.length) = some 2 := by decide +kernel
abbrev MX5_read : MI := (yX5_read, cX5_read, 4, (Option.some Jvm.ClassFile.FieldType.boolean), none)
theorem wX5_read : wdM MX5_read ∈ lw_all := q1122
theorem nX5_read : (parseMethodDescriptor MX5_read.1.desc).map (fun d => d.parameters.length) = some 3 := by decide +kernel
abbrev MX5_scalar : MI := (yX5_scalar, cX5_scalar, 2, (Option.none : Option Jvm.ClassFile.FieldType), none)
theorem wX5_scalar : wdM MX5_scalar ∈ lw_all := q1140
theorem nX5_scalar : (parseMethodDescriptor MX5_scalar.1.desc).map (fun d => d.parameters.length) = some 1 := by decide +kernel
abbrev MX5_square : MI := (yX5_square, cX5_square, 3, (Option.none : Option Jvm.ClassFile.FieldType), none)
theorem wX5_square : wdM MX5_square ∈ lw_all := q1000
theorem nX5_square : (parseMethodDescriptor MX5_square.1.desc).map (fun d => d.parameters.length) = some 2 := by decide +kernel
abbrev MX5_tag : MI := (yX5_tag, cX5_tag, 3, (Option.none : Option Jvm.ClassFile.FieldType), none)
theorem wX5_tag : wdM MX5_tag ∈ lw_all := q965
theorem nX5_tag : (parseMethodDescriptor MX5_tag.1.desc).map (fun d => d.parameters.length) = some 2 := by decide +kernel
abbrev MX5_times : MI := (yX5_times, cX5_times, 5, (Option.none : Option Jvm.ClassFile.FieldType), none)
theorem wX5_times : wdM MX5_times ∈ lw_all := q636
theorem nX5_times : (parseMethodDescriptor MX5_times.1.desc).map (fun d => d.parameters.length) = some 3 := by decide +kernel
abbrev MX5_twice : MI := (yX5_twice, cX5_twice, 2, (Option.none : Option Jvm.ClassFile.FieldType), none)
theorem wX5_twice : wdM MX5_twice ∈ lw_all := q649
theorem nX5_twice : (parseMethodDescriptor MX5_twice.1.desc).map (fun d => d.parameters.length) = some 1 := by decide +kernel
abbrev MX5_write : MI := (yX5_write, cX5_write, 5, (Option.some Jvm.ClassFile.FieldType.boolean), none)
theorem wX5_write : wdM MX5_write ∈ lw_all := q664
theorem nX5_write : (parseMethodDescriptor MX5_write.1.desc).map (fun d => d.parameters.length) = some 3 := by decide +kernel
abbrev MX6_add : MI := (yX6_add, cX6_add, 5, (Option.none : Option Jvm.ClassFile.FieldType), none)
theorem wX6_add : wdM MX6_add ∈ lw_all := q262
theorem nX6_add : (parseMethodDescriptor MX6_add.1.desc).map (fun d => d.parameters.length) = some 3 := by decide +kernel
abbrev MX6_compare : MI := (yX6_compare, cX6_compare, 3, (Option.some Jvm.ClassFile.FieldType.int), none)
theorem wX6_compare : wdM MX6_compare ∈ lw_all := q269
theorem nX6_compare : (parseMethodDescriptor MX6_compare.1.desc).map (fun d => d.parameters.length) = some 2 := by decide +kernel
abbrev MX6_copy : MI := (yX6_copy, cX6_copy, 2, (Option.none : Option Jvm.ClassFile.FieldType), none)
theorem wX6_copy : wdM MX6_copy ∈ lw_all := q255
theorem nX6_copy : (parseMethodDescriptor MX6_copy.1.desc).map (fun d => d.parameters.length) = some 2 := by decide +kernel
abbrev MX6_from : MI := (yX6_from, cX6_from, 3, (Option.none : Option Jvm.ClassFile.FieldType), none)
theorem wX6_from : wdM MX6_from ∈ lw_all := q668
theorem nX6_from : (parseMethodDescriptor MX6_from.1.desc).map (fun d => d.parameters.length) = some 2 := by decide +kernel
abbrev MX6_half : MI := (yX6_half, cX6_half, 3, (Option.none : Option Jvm.ClassFile.FieldType), none)
theorem wX6_half : wdM MX6_half ∈ lw_all := q678
theorem nX6_half : (parseMethodDescriptor MX6_half.1.desc).map (fun d => d.parameters.length) = some 1 := by decide +kernel
abbrev MX6_in : MI := (yX6_in, cX6_in, 3, (Option.none : Option Jvm.ClassFile.FieldType), none)
theorem wX6_in : wdM MX6_in ∈ lw_all := q341
theorem nX6_in : (parseMethodDescriptor MX6_in.1.desc).map (fun d => d.parameters.length) = some 2 := by decide +kernel
abbrev MX6_init : MI := (yX6_init, cX6_init, 4, (Option.none : Option Jvm.ClassFile.FieldType), none)
theorem wX6_init : wdM MX6_init ∈ lw_all := q251
theorem nX6_init : (parseMethodDescriptor MX6_init.1.desc).map (fun d => d.parameters.length) = some 1 := by decide +kernel
abbrev MX6_inverse : MI := (yX6_inverse, cX6_inverse, 4, (Option.some Jvm.ClassFile.FieldType.boolean), none)
theorem wX6_inverse : wdM MX6_inverse ∈ lw_all := q672
theorem nX6_inverse : (parseMethodDescriptor MX6_inverse.1.desc).map (fun d => d.parameters.length) = some 2 := by decide +kernel
abbrev MX6_isBelow : MI := (yX6_isBelow, cX6_isBelow, 2, (Option.some Jvm.ClassFile.FieldType.boolean), none)
theorem wX6_isBelow : wdM MX6_isBelow ∈ lw_all := q625
theorem nX6_isBelow : (parseMethodDescriptor MX6_isBelow.1.desc).map (fun d => d.parameters.length) = some 1 := by decide +kernel
abbrev MX6_isZero : MI := (yX6_isZero, cX6_isZero, 3, (Option.some Jvm.ClassFile.FieldType.boolean), none)
theorem wX6_isZero : wdM MX6_isZero ∈ lw_all := q628
theorem nX6_isZero : (parseMethodDescriptor MX6_isZero.1.desc).map (fun d => d.parameters.length) = some 1 := by decide +kernel
abbrev MX6_minus : MI := (yX6_minus, cX6_minus, 8, (Option.some Jvm.ClassFile.FieldType.int), none)
theorem wX6_minus : wdM MX6_minus ∈ lw_all := q279
theorem nX6_minus : (parseMethodDescriptor MX6_minus.1.desc).map (fun d => d.parameters.length) = some 3 := by decide +kernel
abbrev MX6_mul : MI := (yX6_mul, cX6_mul, 12, (Option.none : Option Jvm.ClassFile.FieldType), none)
theorem wX6_mul : wdM MX6_mul ∈ lw_all := q345
theorem nX6_mul : (parseMethodDescriptor MX6_mul.1.desc).map (fun d => d.parameters.length) = some 3 := by decide +kernel
abbrev MX6_plus : MI := (yX6_plus, cX6_plus, 6, (Option.some Jvm.ClassFile.FieldType.int), none)
theorem wX6_plus : wdM MX6_plus ∈ lw_all := q265
theorem nX6_plus : (parseMethodDescriptor MX6_plus.1.desc).map (fun d => d.parameters.length) = some 3 := by decide +kernel
abbrev MX6_pow : MI := (yX6_pow, cX6_pow, 6, (Option.none : Option Jvm.ClassFile.FieldType), none)
theorem wX6_pow : wdM MX6_pow ∈ lw_all := q1004
theorem nX6_pow : (parseMethodDescriptor MX6_pow.1.desc).map (fun d => d.parameters.length) = some 3 := by decide +kernel
abbrev MX6_read : MI := (yX6_read, cX6_read, 7, (Option.some Jvm.ClassFile.FieldType.boolean), none)
theorem wX6_read : wdM MX6_read ∈ lw_all := q621
theorem nX6_read : (parseMethodDescriptor MX6_read.1.desc).map (fun d => d.parameters.length) = some 4 := by decide +kernel
abbrev MX6_rest : MI := (yX6_rest, cX6_rest, 7, (Option.none : Option Jvm.ClassFile.FieldType), none)
theorem wX6_rest : wdM MX6_rest ∈ lw_all := q988
theorem nX6_rest : (parseMethodDescriptor MX6_rest.1.desc).map (fun d => d.parameters.length) = some 4 := by decide +kernel
abbrev MX6_shift : MI := (yX6_shift, cX6_shift, 3, (Option.none : Option Jvm.ClassFile.FieldType), none)
theorem wX6_shift : wdM MX6_shift ∈ lw_all := q352
theorem nX6_shift : (parseMethodDescriptor MX6_shift.1.desc).map (fun d => d.parameters.length) = some 2 := by decide +kernel
abbrev MX6_sub : MI := (yX6_sub, cX6_sub, 5, (Option.none : Option Jvm.ClassFile.FieldType), none)
theorem wX6_sub : wdM MX6_sub ∈ lw_all := q357
theorem nX6_sub : (parseMethodDescriptor MX6_sub.1.desc).map (fun d => d.parameters.length) = some 3 := by decide +kernel
abbrev MX6_write : MI := (yX6_write, cX6_write, 6, (Option.none : Option Jvm.ClassFile.FieldType), none)
theorem wX6_write : wdM MX6_write ∈ lw_all := q682
theorem nX6_write : (parseMethodDescriptor MX6_write.1.desc).map (fun d => d.parameters.length) = some 4 := by decide +kernel
abbrev MX7_be : MI := (yX7_be, cX7_be, 2, (Option.none : Option Jvm.ClassFile.FieldType), none)
theorem wX7_be : wdM MX7_be ∈ lw_all := q640
theorem nX7_be : (parseMethodDescriptor MX7_be.1.desc).map (fun d => d.parameters.length) = some 1 := by decide +kernel
abbrev MX7_init : MI := (yX7_init, cX7_init, 1, (Option.none : Option Jvm.ClassFile.FieldType), none)
theorem wX7_init : wdM MX7_init ∈ lw_all := q322
theorem nX7_init : (parseMethodDescriptor MX7_init.1.desc).map (fun d => d.parameters.length) = some 0 := by decide +kernel
abbrev MX7_isNone : MI := (yX7_isNone, cX7_isNone, 1, (Option.some Jvm.ClassFile.FieldType.boolean), none)
theorem wX7_isNone : wdM MX7_isNone ∈ lw_all := q653
theorem nX7_isNone : (parseMethodDescriptor MX7_isNone.1.desc).map (fun d => d.parameters.length) = some 0 := by decide +kernel
abbrev MX7_vanish : MI := (yX7_vanish, cX7_vanish, 2, (Option.none : Option Jvm.ClassFile.FieldType), none)
theorem wX7_vanish : wdM MX7_vanish ∈ lw_all := q645
theorem nX7_vanish : (parseMethodDescriptor MX7_vanish.1.desc).map (fun d => d.parameters.length) = some 0 := by decide +kernel
abbrev MX8_as : MI := (yX8_as, cX8_as, 2, (Option.some (Jvm.ClassFile.FieldType.object "VeilMint$Refusal")), none)
theorem wX8_as : wdM MX8_as ∈ lw_all := q632
theorem nX8_as : (parseMethodDescriptor MX8_as.1.desc).map (fun d => d.parameters.length) = some 1 := by decide +kernel
abbrev MX8_init : MI := (yX8_init, cX8_init, 1, (Option.none : Option Jvm.ClassFile.FieldType), none)
theorem wX8_init : wdM MX8_init ∈ lw_all := q467
theorem nX8_init : (parseMethodDescriptor MX8_init.1.desc).map (fun d => d.parameters.length) = some 0 := by decide +kernel
abbrev MX9_has : MI := (yX9_has, cX9_has, 6, (Option.some Jvm.ClassFile.FieldType.boolean), none)
theorem wX9_has : wdM MX9_has ∈ lw_all := q1225
theorem nX9_has : (parseMethodDescriptor MX9_has.1.desc).map (fun d => d.parameters.length) = some 3 := by decide +kernel
abbrev MX9_init : MI := (yX9_init, cX9_init, 1, (Option.none : Option Jvm.ClassFile.FieldType), none)
theorem wX9_init : wdM MX9_init ∈ lw_all := q498
theorem nX9_init : (parseMethodDescriptor MX9_init.1.desc).map (fun d => d.parameters.length) = some 0 := by decide +kernel
abbrev MX9_isFree : MI := (yX9_isFree, cX9_isFree, 3, (Option.some Jvm.ClassFile.FieldType.boolean), none)
theorem wX9_isFree : wdM MX9_isFree ∈ lw_all := q1213
theorem nX9_isFree : (parseMethodDescriptor MX9_isFree.1.desc).map (fun d => d.parameters.length) = some 1 := by decide +kernel
abbrev MX9_many : MI := (yX9_many, cX9_many, 3, (Option.some Jvm.ClassFile.FieldType.int), none)
theorem wX9_many : wdM MX9_many ∈ lw_all := q1237
theorem nX9_many : (parseMethodDescriptor MX9_many.1.desc).map (fun d => d.parameters.length) = some 0 := by decide +kernel
abbrev MX9_place : MI := (yX9_place, cX9_place, 1, (Option.some Jvm.ClassFile.FieldType.int), none)
theorem wX9_place : wdM MX9_place ∈ lw_all := q1216
theorem nX9_place : (parseMethodDescriptor MX9_place.1.desc).map (fun d => d.parameters.length) = some 1 := by decide +kernel
abbrev MX9_spend : MI := (yX9_spend, cX9_spend, 7, (Option.some Jvm.ClassFile.FieldType.int), none)
theorem wX9_spend : wdM MX9_spend ∈ lw_all := q1208
theorem nX9_spend : (parseMethodDescriptor MX9_spend.1.desc).map (fun d => d.parameters.length) = some 2 := by decide +kernel
abbrev MX9_write : MI := (yX9_write, cX9_write, 6, (Option.some Jvm.ClassFile.FieldType.int), none)
theorem wX9_write : wdM MX9_write ∈ lw_all := q1220
theorem nX9_write : (parseMethodDescriptor MX9_write.1.desc).map (fun d => d.parameters.length) = some 3 := by decide +kernel
theorem cs_J0_495 : CS RJ0 495 MJ1_charAt := ⟨wJ1_charAt, q105, q220, q219, by decide, by decide⟩
theorem cs_J0_498 : CS RJ0 498 MJ3_charAt := ⟨wJ3_charAt, q107, q231, q230, by decide, by decide⟩
theorem cs_J0_1059 : CS RJ0 1059 MJ2_checkIndex := ⟨wJ2_checkIndex, q106, q228, q227, by decide, by decide⟩
theorem cs_J1_9 : CS RJ1 9 MJ0_checkIndex := ⟨wJ0_checkIndex, q104, q223, q222, by decide, by decide⟩
theorem cs_J3_67 : CS RJ3 67 MJ3_checkIndex := ⟨wJ3_checkIndex, q107, q234, q233, by decide, by decide⟩
theorem cs_J3_71 : CS RJ3 71 MJ3_getChar := ⟨wJ3_getChar, q107, q241, q240, by decide, by decide⟩
theorem cs_J3_48 : CS RJ3 48 MJ3_length := ⟨wJ3_length, q107, q237, q236, by decide, by decide⟩
theorem cs_J3_414 : CS RJ3 414 MJ0_checkIndex := ⟨wJ0_checkIndex, q104, q223, q239, by decide, by decide⟩
theorem cs_J4_259 : CS RJ4 259 MJ4_compare := ⟨wJ4_compare, q109, q275, q274, by decide, by decide⟩
theorem fp_J5_7_6 : FP RJ5 7 6 0 (tyX8 0) false := ⟨_, _, _, _, tyX8, rfl, in_X8, by decide, Or.inl q481, Or.inl rfl, tyX8_ok, nmX8, rfl, (fun e => by cases e), rfl⟩
theorem fp_J5_7_14 : FP RJ5 7 14 0 (tyJ9 0) false := ⟨_, _, _, _, tyJ9, rfl, in_J9, by decide, Or.inl q481, Or.inl rfl, tyJ9_ok, nmJ9, rfl, (fun e => by cases e), rfl⟩
theorem fp_J5_17_6 : FP RJ5 17 6 1 (tyX8 1) false := ⟨_, _, _, _, tyX8, rfl, in_X8, by decide, Or.inl q482, Or.inl rfl, tyX8_ok, nmX8, rfl, (fun e => by cases e), rfl⟩
theorem fp_J5_17_14 : FP RJ5 17 14 1 (tyJ9 1) false := ⟨_, _, _, _, tyJ9, rfl, in_J9, by decide, Or.inl q482, Or.inl rfl, tyJ9_ok, nmJ9, rfl, (fun e => by cases e), rfl⟩
theorem fp_J5_24_6 : FP RJ5 24 6 2 (tyX8 2) false := ⟨_, _, _, _, tyX8, rfl, in_X8, by decide, Or.inl q483, Or.inl rfl, tyX8_ok, nmX8, rfl, (fun e => by cases e), rfl⟩
theorem fp_J5_24_14 : FP RJ5 24 14 2 (tyJ9 2) false := ⟨_, _, _, _, tyJ9, rfl, in_J9, by decide, Or.inl q483, Or.inl rfl, tyJ9_ok, nmJ9, rfl, (fun e => by cases e), rfl⟩
theorem fp_J5_31_6 : FP RJ5 31 6 3 (tyX8 3) false := ⟨_, _, _, _, tyX8, rfl, in_X8, by decide, Or.inl q480, Or.inl rfl, tyX8_ok, nmX8, rfl, (fun e => by cases e), rfl⟩
theorem fp_J5_31_14 : FP RJ5 31 14 3 (tyJ9 3) false := ⟨_, _, _, _, tyJ9, rfl, in_J9, by decide, Or.inl q480, Or.inl rfl, tyJ9_ok, nmJ9, rfl, (fun e => by cases e), rfl⟩
theorem ci_J6_16 : CI RJ6 16 MJ5_init_2 := ⟨rfl, rfl, wJ5_init_2, q111, q475, rfl, q474, by decide, by decide⟩
theorem ci_J6_1 : CI RJ6 1 MJ5_init := ⟨rfl, rfl, wJ5_init, q111, q448, rfl, q1276, by decide, by decide⟩
theorem ci_J7_16 : CI RJ7 16 MJ6_init := ⟨rfl, rfl, wJ6_init, q112, q472, rfl, q471, by decide, by decide⟩
theorem ci_J7_1 : CI RJ7 1 MJ6_init_2 := ⟨rfl, rfl, wJ6_init_2, q112, q1274, rfl, q1273, by decide, by decide⟩
theorem cs_J8_302 : CS RJ8 302 MJ8_compare := ⟨wJ8_compare, q122, q1789, q1788, by decide, by decide⟩
theorem ci_J9_1 : CI RJ9 1 MJ7_init_2 := ⟨rfl, rfl, wJ7_init_2, q113, q1271, rfl, q1270, by decide, by decide⟩
theorem cv_X0_19_0 : CV RX0 19 0 MX1_finalize := ⟨_, _, _, rfl, wX1_finalize, q98, q1290, Or.inl ⟨q1289, q1291, by decide, by decide⟩⟩
theorem cv_X0_23_0 : CV RX0 23 0 MX1_finalizeMany := ⟨_, _, _, rfl, wX1_finalizeMany, q98, q1318, Or.inl ⟨q1317, q1319, by decide, by decide⟩⟩
theorem cv_X0_15_0 : CV RX0 15 0 MX1_look := ⟨_, _, _, rfl, wX1_look, q98, q1283, Or.inl ⟨q1282, q1284, by decide, by decide⟩⟩
theorem cv_X0_7_0 : CV RX0 7 0 MX1_retire := ⟨_, _, _, rfl, wX1_retire, q98, q1251, Or.inl ⟨q1250, q1252, by decide, by decide⟩⟩
theorem fg_X10_13_12 : FG RX10 13 12 2 := FG.ofN rfl in_X11 (by decide) q1342 rfl
theorem cs_X10_18 : CS RX10 18 MX10_plus := ⟨wX10_plus, q116, q1397, q1396, by decide, by decide⟩
theorem fg_X10_22_12 : FG RX10 22 12 0 := FG.ofN rfl in_X11 (by decide) q1338 rfl
theorem cs_X10_26 : CS RX10 26 MX10_compare := ⟨wX10_compare, q116, q1741, q1740, by decide, by decide⟩
theorem cs_X10_30 : CS RX10 30 MX10_minus := ⟨wX10_minus, q116, q1407, q1406, by decide, by decide⟩
theorem fp_X10_1_11 : FP RX10 1 11 0 (tyX10 0) false := ⟨_, _, _, _, tyX10, rfl, in_X10, by decide, Or.inl q1409, Or.inl rfl, tyX10_ok, nmX10, rfl, (fun e => by cases e), rfl⟩
theorem fg_X10_606_11 : FG RX10 606 11 84 := FG.of rfl in_X10 (by decide) q1493 rfl
theorem fg_X10_582_11 : FG RX10 582 11 82 := FG.of rfl in_X10 (by decide) q1491 rfl
theorem fg_X10_534_11 : FG RX10 534 11 81 := FG.of rfl in_X10 (by decide) q1490 rfl
theorem fg_X10_537_11 : FG RX10 537 11 83 := FG.of rfl in_X10 (by decide) q1492 rfl
theorem fp_X10_582_11 : FP RX10 582 11 82 (tyX10 82) false := ⟨_, _, _, _, tyX10, rfl, in_X10, by decide, Or.inl q1491, Or.inl rfl, tyX10_ok, nmX10, rfl, (fun e => by cases e), rfl⟩
theorem fg_X10_437_11 : FG RX10 437 11 57 := FG.of rfl in_X10 (by decide) q1466 rfl
theorem cs_X10_217 : CS RX10 217 MX10_load := ⟨wX10_load, q116, q1732, q1731, by decide, by decide⟩
theorem cs_X10_622 : CS RX10 622 MX10_isSecret := ⟨wX10_isSecret, q116, q1735, q1734, by decide, by decide⟩
theorem fg_X10_525_11 : FG RX10 525 11 74 := FG.of rfl in_X10 (by decide) q1483 rfl
theorem fg_X10_640_11 : FG RX10 640 11 75 := FG.of rfl in_X10 (by decide) q1484 rfl
theorem cs_X10_91 : CS RX10 91 MX10_copy := ⟨wX10_copy, q116, q1389, q1388, by decide, by decide⟩
theorem fg_X10_522_11 : FG RX10 522 11 73 := FG.of rfl in_X10 (by decide) q1482 rfl
theorem fg_X10_564_11 : FG RX10 564 11 93 := FG.of rfl in_X10 (by decide) q1502 rfl
theorem cv_X10_650_11 : CV RX10 650 11 MX10_toPoint := ⟨_, _, _, rfl, wX10_toPoint, q116, q1896, Or.inl ⟨q1894, qs56, by decide, by decide⟩⟩
theorem fg_X10_136_13 : FG RX10 136 13 2 := FG.ofN rfl in_X12 (by decide) q1365 rfl
theorem cv_X10_446_11 : CV RX10 446 11 MX10_multiply := ⟨_, _, _, rfl, wX10_multiply, q116, q1745, Or.inl ⟨q1743, qs34, by decide, by decide⟩⟩
theorem fg_X10_503_11 : FG RX10 503 11 66 := FG.of rfl in_X10 (by decide) q1475 rfl
theorem fg_X10_513_11 : FG RX10 513 11 69 := FG.of rfl in_X10 (by decide) q1478 rfl
theorem fg_X10_510_11 : FG RX10 510 11 68 := FG.of rfl in_X10 (by decide) q1477 rfl
theorem fg_X10_549_11 : FG RX10 549 11 88 := FG.of rfl in_X10 (by decide) q1497 rfl
theorem cs_X10_122 : CS RX10 122 MX10_isZero := ⟨wX10_isZero, q116, q1738, q1737, by decide, by decide⟩
theorem fg_X10_555_11 : FG RX10 555 11 90 := FG.of rfl in_X10 (by decide) q1499 rfl
theorem cv_X10_161_11 : CV RX10 161 11 MX10_inverse := ⟨_, _, _, rfl, wX10_inverse, q116, q1811, Or.inl ⟨q1809, qs44, by decide, by decide⟩⟩
theorem cv_X10_654_11 : CV RX10 654 11 MX10_encodes := ⟨_, _, _, rfl, wX10_encodes, q116, q1974, Or.inl ⟨q1972, qs71, by decide, by decide⟩⟩
theorem fg_X10_552_11 : FG RX10 552 11 89 := FG.of rfl in_X10 (by decide) q1498 rfl
theorem cv_X10_602_11 : CV RX10 602 11 MX10_byE := ⟨_, _, _, rfl, wX10_byE, q116, q1996, Or.inl ⟨q1994, qs74, by decide, by decide⟩⟩
theorem cv_X10_102_11 : CV RX10 102 11 MX10_times := ⟨_, _, _, rfl, wX10_times, q116, q1758, Or.inl ⟨q1756, qs36, by decide, by decide⟩⟩
theorem fg_X10_286_11 : FG RX10 286 11 29 := FG.of rfl in_X10 (by decide) q1438 rfl
theorem fg_X10_239_11 : FG RX10 239 11 25 := FG.of rfl in_X10 (by decide) q1434 rfl
theorem cs_X10_289 : CS RX10 289 MX10_roll := ⟨wX10_roll, q116, q1861, q1860, by decide, by decide⟩
theorem fg_X10_274_11 : FG RX10 274 11 28 := FG.of rfl in_X10 (by decide) q1437 rfl
theorem cv_X10_246_11 : CV RX10 246 11 MX10_say_2 := ⟨_, _, _, rfl, wX10_say_2, q116, q1839, Or.inl ⟨q1837, qs48, by decide, by decide⟩⟩
theorem fg_X10_558_11 : FG RX10 558 11 91 := FG.of rfl in_X10 (by decide) q1500 rfl
theorem fg_X10_507_11 : FG RX10 507 11 67 := FG.of rfl in_X10 (by decide) q1476 rfl
theorem cv_X10_213_11 : CV RX10 213 11 MX10_power := ⟨_, _, _, rfl, wX10_power, q116, q1959, Or.inl ⟨q1957, qs68, by decide, by decide⟩⟩
theorem fg_X10_149_13 : FG RX10 149 13 1 := FG.ofN rfl in_X12 (by decide) q1363 rfl
theorem fg_X10_146_13 : FG RX10 146 13 0 := FG.ofN rfl in_X12 (by decide) q1361 rfl
theorem cs_X10_232 : CS RX10 232 MX10_store := ⟨wX10_store, q116, q1831, q1830, by decide, by decide⟩
theorem fg_X10_73_11 : FG RX10 73 11 2 := FG.of rfl in_X10 (by decide) q1411 rfl
theorem fg_X10_417_11 : FG RX10 417 11 50 := FG.of rfl in_X10 (by decide) q1459 rfl
theorem fg_X10_419_11 : FG RX10 419 11 51 := FG.of rfl in_X10 (by decide) q1460 rfl
theorem fg_X10_450_11 : FG RX10 450 11 52 := FG.of rfl in_X10 (by decide) q1461 rfl
theorem fg_X10_453_11 : FG RX10 453 11 53 := FG.of rfl in_X10 (by decide) q1462 rfl
theorem fp_X10_331_11 : FP RX10 331 11 33 (tyX10 33) false := ⟨_, _, _, _, tyX10, rfl, in_X10, by decide, Or.inl q1442, Or.inl rfl, tyX10_ok, nmX10, rfl, (fun e => by cases e), rfl⟩
theorem cv_X10_426_11 : CV RX10 426 11 MX10_laysSpot := ⟨_, _, _, rfl, wX10_laysSpot, q116, q2033, Or.inl ⟨q2031, qs82, by decide, by decide⟩⟩
theorem cv_X10_434_11 : CV RX10 434 11 MX10_laysWord := ⟨_, _, _, rfl, wX10_laysWord, q116, q2038, Or.inl ⟨q2036, qs83, by decide, by decide⟩⟩
theorem cv_X10_440_11 : CV RX10 440 11 MX10_toScalar := ⟨_, _, _, rfl, wX10_toScalar, q116, q2042, Or.inl ⟨q2040, qs84, by decide, by decide⟩⟩
theorem cs_X10_588 : CS RX10 588 MX10_encodedSize := ⟨wX10_encodedSize, q116, q1977, q1976, by decide, by decide⟩
theorem cv_X10_585_12 : CV RX10 585 12 MX11_bits := ⟨_, _, _, rfl, wX11_bits, q117, q1980, Or.inl ⟨q1979, q1981, by decide, by decide⟩⟩
theorem fg_X10_492_11 : FG RX10 492 11 61 := FG.of rfl in_X10 (by decide) q1470 rfl
theorem fg_X10_626_11 : FG RX10 626 11 70 := FG.of rfl in_X10 (by decide) q1479 rfl
theorem fg_X10_495_11 : FG RX10 495 11 62 := FG.of rfl in_X10 (by decide) q1471 rfl
theorem cv_X10_632_11 : CV RX10 632 11 MX10_keyId := ⟨_, _, _, rfl, wX10_keyId, q116, q1825, Or.inl ⟨q1823, qs46, by decide, by decide⟩⟩
theorem fp_X10_626_11 : FP RX10 626 11 70 (tyX10 70) false := ⟨_, _, _, _, tyX10, rfl, in_X10, by decide, Or.inl q1479, Or.inl rfl, tyX10_ok, nmX10, rfl, (fun e => by cases e), rfl⟩
theorem cs_X10_9 : CS RX10 9 MX10_u := ⟨wX10_u, q116, q1400, q1399, by decide, by decide⟩
theorem cv_X10_354_11 : CV RX10 354 11 MX10_tags := ⟨_, _, _, rfl, wX10_tags, q116, q1901, Or.inl ⟨q1899, qs57, by decide, by decide⟩⟩
theorem cv_X10_334_11 : CV RX10 334 11 MX10_both := ⟨_, _, _, rfl, wX10_both, q116, q1843, Or.inl ⟨q1841, qs49, by decide, by decide⟩⟩
theorem fg_X10_402_11 : FG RX10 402 11 56 := FG.of rfl in_X10 (by decide) q1465 rfl
theorem cs_X10_405 : CS RX10 405 MX10_bytes := ⟨wX10_bytes, q116, q1828, q1827, by decide, by decide⟩
theorem cv_X10_325_11 : CV RX10 325 11 MX10_say := ⟨_, _, _, rfl, wX10_say, q116, q1835, Or.inl ⟨q1833, qs47, by decide, by decide⟩⟩
theorem fg_X10_322_11 : FG RX10 322 11 35 := FG.of rfl in_X10 (by decide) q1444 rfl
theorem fg_X10_319_11 : FG RX10 319 11 34 := FG.of rfl in_X10 (by decide) q1443 rfl
theorem cv_X10_340_11 : CV RX10 340 11 MX10_h3 := ⟨_, _, _, rfl, wX10_h3, q116, q1925, Or.inl ⟨q1923, qs62, by decide, by decide⟩⟩
theorem fg_X10_414_11 : FG RX10 414 11 55 := FG.of rfl in_X10 (by decide) q1464 rfl
theorem fg_X10_283_11 : FG RX10 283 11 27 := FG.of rfl in_X10 (by decide) q1436 rfl
theorem fp_X10_136_13 : FP RX10 136 13 2 (tyX12 2) false := ⟨_, _, _, _, tyX12, rfl, in_X12, by decide, Or.inr ⟨⟨_, q1365⟩, rfl⟩, Or.inl rfl, tyX12_ok, nmX12, rfl, (fun e => by cases e), rfl⟩
theorem cv_X10_409_11 : CV RX10 409 11 MX10_lays := ⟨_, _, _, rfl, wX10_lays, q116, q2029, Or.inl ⟨q2027, qs81, by decide, by decide⟩⟩
theorem fg_X10_328_11 : FG RX10 328 11 32 := FG.of rfl in_X10 (by decide) q1441 rfl
theorem fg_X10_331_11 : FG RX10 331 11 33 := FG.of rfl in_X10 (by decide) q1442 rfl
theorem fg_X10_422_11 : FG RX10 422 11 48 := FG.of rfl in_X10 (by decide) q1457 rfl
theorem fg_X10_429_11 : FG RX10 429 11 49 := FG.of rfl in_X10 (by decide) q1458 rfl
theorem fg_X10_443_11 : FG RX10 443 11 54 := FG.of rfl in_X10 (by decide) q1463 rfl
theorem cv_X10_398_11 : CV RX10 398 11 MX10_join := ⟨_, _, _, rfl, wX10_join, q116, q1966, Or.inl ⟨q1964, qs69, by decide, by decide⟩⟩
theorem cv_X10_262_11 : CV RX10 262 11 MX10_word := ⟨_, _, _, rfl, wX10_word, q116, q1905, Or.inl ⟨q1903, qs58, by decide, by decide⟩⟩
theorem fg_X10_519_11 : FG RX10 519 11 72 := FG.of rfl in_X10 (by decide) q1481 rfl
theorem cv_X10_724_11 : CV RX10 724 11 MX10_spent := ⟨_, _, _, rfl, wX10_spent, q116, q2121, Or.inl ⟨q2119, qs96, by decide, by decide⟩⟩
theorem fg_X10_718_11 : FG RX10 718 11 77 := FG.of rfl in_X10 (by decide) q1486 rfl
theorem fg_X10_704_11 : FG RX10 704 11 80 := FG.of rfl in_X10 (by decide) q1489 rfl
theorem fg_X10_531_11 : FG RX10 531 11 78 := FG.of rfl in_X10 (by decide) q1487 rfl
theorem fg_X10_721_11 : FG RX10 721 11 79 := FG.of rfl in_X10 (by decide) q1488 rfl
theorem fg_X10_61_11 : FG RX10 61 11 9 := FG.of rfl in_X10 (by decide) q1418 rfl
theorem fg_X10_165_11 : FG RX10 165 11 15 := FG.of rfl in_X10 (by decide) q1424 rfl
theorem fg_X10_152_11 : FG RX10 152 11 14 := FG.of rfl in_X10 (by decide) q1423 rfl
theorem cs_X10_98 : CS RX10 98 MX10_small := ⟨wX10_small, q116, q1394, q1393, by decide, by decide⟩
theorem cs_X10_130 : CS RX10 130 MX10_sub := ⟨wX10_sub, q116, q1796, q1795, by decide, by decide⟩
theorem cs_X10_155 : CS RX10 155 MX10_add := ⟨wX10_add, q116, q1799, q1798, by decide, by decide⟩
theorem fp_X10_531_11 : FP RX10 531 11 78 (tyX10 78) false := ⟨_, _, _, _, tyX10, rfl, in_X10, by decide, Or.inl q1487, Or.inl rfl, tyX10_ok, nmX10, rfl, (fun e => by cases e), rfl⟩
theorem cv_X10_612_11 : CV RX10 612 11 MX10_used := ⟨_, _, _, rfl, wX10_used, q116, q1725, Or.inl ⟨q1723, qs32, by decide, by decide⟩⟩
theorem fp_X10_243_11 : FP RX10 243 11 26 (tyX10 26) false := ⟨_, _, _, _, tyX10, rfl, in_X10, by decide, Or.inl q1435, Or.inl rfl, tyX10_ok, nmX10, rfl, (fun e => by cases e), rfl⟩
theorem cv_X10_609_11 : CV RX10 609 11 MX10_h2 := ⟨_, _, _, rfl, wX10_h2, q116, q1847, Or.inl ⟨q1845, qs50, by decide, by decide⟩⟩
theorem fp_X10_606_11 : FP RX10 606 11 84 (tyX10 84) false := ⟨_, _, _, _, tyX10, rfl, in_X10, by decide, Or.inl q1493, Or.inl rfl, tyX10_ok, nmX10, rfl, (fun e => by cases e), rfl⟩
theorem fg_X10_528_11 : FG RX10 528 11 76 := FG.of rfl in_X10 (by decide) q1485 rfl
theorem fg_X10_168_11 : FG RX10 168 11 19 := FG.of rfl in_X10 (by decide) q1428 rfl
theorem fg_X10_171_11 : FG RX10 171 11 20 := FG.of rfl in_X10 (by decide) q1429 rfl
theorem fg_X10_174_11 : FG RX10 174 11 17 := FG.of rfl in_X10 (by decide) q1426 rfl
theorem fg_X10_177_11 : FG RX10 177 11 21 := FG.of rfl in_X10 (by decide) q1430 rfl
theorem fg_X10_180_11 : FG RX10 180 11 18 := FG.of rfl in_X10 (by decide) q1427 rfl
theorem fg_X10_183_11 : FG RX10 183 11 22 := FG.of rfl in_X10 (by decide) q1431 rfl
theorem fg_X10_186_11 : FG RX10 186 11 23 := FG.of rfl in_X10 (by decide) q1432 rfl
theorem cv_X10_189_11 : CV RX10 189 11 MX10_eight := ⟨_, _, _, rfl, wX10_eight, q116, q1803, Or.inl ⟨q1801, qs42, by decide, by decide⟩⟩
theorem fg_X10_158_11 : FG RX10 158 11 13 := FG.of rfl in_X10 (by decide) q1422 rfl
theorem cv_X10_221_11 : CV RX10 221 11 MX10_curve := ⟨_, _, _, rfl, wX10_curve, q116, q1951, Or.inl ⟨q1949, qs66, by decide, by decide⟩⟩
theorem cv_X10_225_11 : CV RX10 225 11 MX10_root := ⟨_, _, _, rfl, wX10_root, q116, q1955, Or.inl ⟨q1953, qs67, by decide, by decide⟩⟩
theorem cs_X10_229 : CS RX10 229 MX10_turn := ⟨wX10_turn, q116, q1962, q1961, by decide, by decide⟩
theorem cv_X10_592_11 : CV RX10 592 11 MX10_salted := ⟨_, _, _, rfl, wX10_salted, q116, q1985, Or.inl ⟨q1983, qs72, by decide, by decide⟩⟩
theorem fg_X10_546_11 : FG RX10 546 11 87 := FG.of rfl in_X10 (by decide) q1496 rfl
theorem cv_X10_596_11 : CV RX10 596 11 MX10_masks := ⟨_, _, _, rfl, wX10_masks, q116, q1989, Or.inl ⟨q1987, qs73, by decide, by decide⟩⟩
theorem fg_X10_540_11 : FG RX10 540 11 85 := FG.of rfl in_X10 (by decide) q1494 rfl
theorem fg_X10_543_11 : FG RX10 543 11 86 := FG.of rfl in_X10 (by decide) q1495 rfl
theorem cs_X10_599 : CS RX10 599 MX10_clear := ⟨wX10_clear, q116, q1992, q1991, by decide, by decide⟩
theorem fg_X10_516_11 : FG RX10 516 11 71 := FG.of rfl in_X10 (by decide) q1480 rfl
theorem cv_X10_670_11 : CV RX10 670 11 MX10_element := ⟨_, _, _, rfl, wX10_element, q116, q2016, Or.inl ⟨q2014, qs78, by decide, by decide⟩⟩
theorem fg_X10_468_11 : FG RX10 468 11 58 := FG.of rfl in_X10 (by decide) q1467 rfl
theorem fg_X10_479_11 : FG RX10 479 11 59 := FG.of rfl in_X10 (by decide) q1468 rfl
theorem cv_X10_690_11 : CV RX10 690 11 MX10_isProved := ⟨_, _, _, rfl, wX10_isProved, q116, q2072, Or.inl ⟨q2070, qs89, by decide, by decide⟩⟩
theorem fg_X10_360_11 : FG RX10 360 11 10 := FG.of rfl in_X10 (by decide) q1419 rfl
theorem cv_X10_693_11 : CV RX10 693 11 MX10_output := ⟨_, _, _, rfl, wX10_output, q116, q2076, Or.inl ⟨q2074, qs90, by decide, by decide⟩⟩
theorem fg_X10_570_11 : FG RX10 570 11 95 := FG.of rfl in_X10 (by decide) q1504 rfl
theorem cv_X10_697_11 : CV RX10 697 11 MX10_isSigned := ⟨_, _, _, rfl, wX10_isSigned, q116, q2085, Or.inl ⟨q2083, qs92, by decide, by decide⟩⟩
theorem cv_X10_337_11 : CV RX10 337 11 MX10_endsTag := ⟨_, _, _, rfl, wX10_endsTag, q116, q1921, Or.inl ⟨q1919, qs61, by decide, by decide⟩⟩
theorem fg_X10_343_11 : FG RX10 343 11 36 := FG.of rfl in_X10 (by decide) q1445 rfl
theorem fg_X10_346_11 : FG RX10 346 11 37 := FG.of rfl in_X10 (by decide) q1446 rfl
theorem fg_X10_349_11 : FG RX10 349 11 38 := FG.of rfl in_X10 (by decide) q1447 rfl
theorem fg_X10_561_11 : FG RX10 561 11 92 := FG.of rfl in_X10 (by decide) q1501 rfl
theorem fg_X10_36_11 : FG RX10 36 11 1 := FG.of rfl in_X10 (by decide) q1410 rfl
theorem cv_X10_69_11 : CV RX10 69 11 MX10_rest := ⟨_, _, _, rfl, wX10_rest, q116, q1774, Or.inl ⟨q1772, qs40, by decide, by decide⟩⟩
theorem cv_X10_678_11 : CV RX10 678 11 MX10_isAsking := ⟨_, _, _, rfl, wX10_isAsking, q116, q2064, Or.inl ⟨q2062, qs87, by decide, by decide⟩⟩
theorem cv_X10_681_11 : CV RX10 681 11 MX10_ends := ⟨_, _, _, rfl, wX10_ends, q116, q2068, Or.inl ⟨q2066, qs88, by decide, by decide⟩⟩
theorem cv_X10_685_11 : CV RX10 685 11 MX10_endsTwo := ⟨_, _, _, rfl, wX10_endsTwo, q116, q2081, Or.inl ⟨q2079, qs91, by decide, by decide⟩⟩
theorem cv_X10_77_11 : CV RX10 77 11 MX10_folded := ⟨_, _, _, rfl, wX10_folded, q116, q1766, Or.inl ⟨q1764, qs38, by decide, by decide⟩⟩
theorem cv_X10_81_11 : CV RX10 81 11 MX10_carried := ⟨_, _, _, rfl, wX10_carried, q116, q1770, Or.inl ⟨q1768, qs39, by decide, by decide⟩⟩
theorem fg_X10_567_11 : FG RX10 567 11 94 := FG.of rfl in_X10 (by decide) q1503 rfl
theorem fg_X10_475_11 : FG RX10 475 11 64 := FG.of rfl in_X10 (by decide) q1473 rfl
theorem cv_X10_674_11 : CV RX10 674 11 MX10_proves := ⟨_, _, _, rfl, wX10_proves, q116, q2020, Or.inl ⟨q2018, qs79, by decide, by decide⟩⟩
theorem cv_X10_270_11 : CV RX10 270 11 MX10_pads := ⟨_, _, _, rfl, wX10_pads, q116, q1851, Or.inl ⟨q1849, qs51, by decide, by decide⟩⟩
theorem fg_X10_243_11 : FG RX10 243 11 26 := FG.of rfl in_X10 (by decide) q1435 rfl
theorem cv_X10_280_11 : CV RX10 280 11 MX10_block := ⟨_, _, _, rfl, wX10_block, q116, q1858, Or.inl ⟨q1856, qs52, by decide, by decide⟩⟩
theorem fg_X10_296_11 : FG RX10 296 11 30 := FG.of rfl in_X10 (by decide) q1439 rfl
theorem cv_X10_302_11 : CV RX10 302 11 MX10_wideBlock := ⟨_, _, _, rfl, wX10_wideBlock, q116, q1931, Or.inl ⟨q1929, qs63, by decide, by decide⟩⟩
theorem cs_X10_106 : CS RX10 106 MX10_half := ⟨wX10_half, q116, q1404, q1403, by decide, by decide⟩
theorem fp_X10_36_11 : FP RX10 36 11 1 (tyX10 1) true := ⟨_, _, _, _, tyX10, rfl, in_X10, by decide, Or.inl q1410, Or.inl rfl, tyX10_ok, nmX10, rfl, (fun _ => rfl), rfl⟩
theorem fp_X10_73_11 : FP RX10 73 11 2 (tyX10 2) true := ⟨_, _, _, _, tyX10, rfl, in_X10, by decide, Or.inl q1411, Or.inl rfl, tyX10_ok, nmX10, rfl, (fun _ => rfl), rfl⟩
theorem fp_X10_88_11 : FP RX10 88 11 3 (tyX10 3) true := ⟨_, _, _, _, tyX10, rfl, in_X10, by decide, Or.inl q1412, Or.inl rfl, tyX10_ok, nmX10, rfl, (fun _ => rfl), rfl⟩
theorem fp_X10_95_11 : FP RX10 95 11 4 (tyX10 4) true := ⟨_, _, _, _, tyX10, rfl, in_X10, by decide, Or.inl q1413, Or.inl rfl, tyX10_ok, nmX10, rfl, (fun _ => rfl), rfl⟩
theorem fp_X10_110_11 : FP RX10 110 11 5 (tyX10 5) true := ⟨_, _, _, _, tyX10, rfl, in_X10, by decide, Or.inl q1414, Or.inl rfl, tyX10_ok, nmX10, rfl, (fun _ => rfl), rfl⟩
theorem fp_X10_113_11 : FP RX10 113 11 6 (tyX10 6) true := ⟨_, _, _, _, tyX10, rfl, in_X10, by decide, Or.inl q1415, Or.inl rfl, tyX10_ok, nmX10, rfl, (fun _ => rfl), rfl⟩
theorem fp_X10_116_11 : FP RX10 116 11 7 (tyX10 7) true := ⟨_, _, _, _, tyX10, rfl, in_X10, by decide, Or.inl q1416, Or.inl rfl, tyX10_ok, nmX10, rfl, (fun _ => rfl), rfl⟩
theorem fp_X10_119_11 : FP RX10 119 11 8 (tyX10 8) true := ⟨_, _, _, _, tyX10, rfl, in_X10, by decide, Or.inl q1417, Or.inl rfl, tyX10_ok, nmX10, rfl, (fun _ => rfl), rfl⟩
theorem cin_X10_490 : CIN RX10 490 MX11_init := ⟨rfl, rfl, wX11_init, q117, q1334, rfl, ⟨_, q1333⟩, by decide, by decide⟩
theorem fp_X10_61_11 : FP RX10 61 11 9 (tyX10 9) true := ⟨_, _, _, _, tyX10, rfl, in_X10, by decide, Or.inl q1418, Or.inl rfl, tyX10_ok, nmX10, rfl, (fun _ => rfl), rfl⟩
theorem fp_X10_360_11 : FP RX10 360 11 10 (tyX10 10) true := ⟨_, _, _, _, tyX10, rfl, in_X10, by decide, Or.inl q1419, Or.inl rfl, tyX10_ok, nmX10, rfl, (fun _ => rfl), rfl⟩
theorem cin_X10_491 : CIN RX10 491 MX12_init := ⟨rfl, rfl, wX12_init, q118, q1357, rfl, ⟨_, q1356⟩, by decide, by decide⟩
theorem fp_X10_465_11 : FP RX10 465 11 11 (tyX10 11) true := ⟨_, _, _, _, tyX10, rfl, in_X10, by decide, Or.inl q1420, Or.inl rfl, tyX10_ok, nmX10, rfl, (fun _ => rfl), rfl⟩
theorem fp_X10_192_11 : FP RX10 192 11 12 (tyX10 12) true := ⟨_, _, _, _, tyX10, rfl, in_X10, by decide, Or.inl q1421, Or.inl rfl, tyX10_ok, nmX10, rfl, (fun _ => rfl), rfl⟩
theorem fp_X10_158_11 : FP RX10 158 11 13 (tyX10 13) true := ⟨_, _, _, _, tyX10, rfl, in_X10, by decide, Or.inl q1422, Or.inl rfl, tyX10_ok, nmX10, rfl, (fun _ => rfl), rfl⟩
theorem fp_X10_152_11 : FP RX10 152 11 14 (tyX10 14) true := ⟨_, _, _, _, tyX10, rfl, in_X10, by decide, Or.inl q1423, Or.inl rfl, tyX10_ok, nmX10, rfl, (fun _ => rfl), rfl⟩
theorem fp_X10_165_11 : FP RX10 165 11 15 (tyX10 15) true := ⟨_, _, _, _, tyX10, rfl, in_X10, by decide, Or.inl q1424, Or.inl rfl, tyX10_ok, nmX10, rfl, (fun _ => rfl), rfl⟩
theorem fp_X10_210_11 : FP RX10 210 11 16 (tyX10 16) true := ⟨_, _, _, _, tyX10, rfl, in_X10, by decide, Or.inl q1425, Or.inl rfl, tyX10_ok, nmX10, rfl, (fun _ => rfl), rfl⟩
theorem fp_X10_174_11 : FP RX10 174 11 17 (tyX10 17) true := ⟨_, _, _, _, tyX10, rfl, in_X10, by decide, Or.inl q1426, Or.inl rfl, tyX10_ok, nmX10, rfl, (fun _ => rfl), rfl⟩
theorem fp_X10_180_11 : FP RX10 180 11 18 (tyX10 18) true := ⟨_, _, _, _, tyX10, rfl, in_X10, by decide, Or.inl q1427, Or.inl rfl, tyX10_ok, nmX10, rfl, (fun _ => rfl), rfl⟩
theorem fp_X10_168_11 : FP RX10 168 11 19 (tyX10 19) true := ⟨_, _, _, _, tyX10, rfl, in_X10, by decide, Or.inl q1428, Or.inl rfl, tyX10_ok, nmX10, rfl, (fun _ => rfl), rfl⟩
theorem fp_X10_171_11 : FP RX10 171 11 20 (tyX10 20) true := ⟨_, _, _, _, tyX10, rfl, in_X10, by decide, Or.inl q1429, Or.inl rfl, tyX10_ok, nmX10, rfl, (fun _ => rfl), rfl⟩
theorem fp_X10_177_11 : FP RX10 177 11 21 (tyX10 21) true := ⟨_, _, _, _, tyX10, rfl, in_X10, by decide, Or.inl q1430, Or.inl rfl, tyX10_ok, nmX10, rfl, (fun _ => rfl), rfl⟩
theorem fp_X10_183_11 : FP RX10 183 11 22 (tyX10 22) true := ⟨_, _, _, _, tyX10, rfl, in_X10, by decide, Or.inl q1431, Or.inl rfl, tyX10_ok, nmX10, rfl, (fun _ => rfl), rfl⟩
theorem fp_X10_186_11 : FP RX10 186 11 23 (tyX10 23) true := ⟨_, _, _, _, tyX10, rfl, in_X10, by decide, Or.inl q1432, Or.inl rfl, tyX10_ok, nmX10, rfl, (fun _ => rfl), rfl⟩
theorem fp_X10_207_11 : FP RX10 207 11 24 (tyX10 24) true := ⟨_, _, _, _, tyX10, rfl, in_X10, by decide, Or.inl q1433, Or.inl rfl, tyX10_ok, nmX10, rfl, (fun _ => rfl), rfl⟩
theorem fp_X10_239_11 : FP RX10 239 11 25 (tyX10 25) true := ⟨_, _, _, _, tyX10, rfl, in_X10, by decide, Or.inl q1434, Or.inl rfl, tyX10_ok, nmX10, rfl, (fun _ => rfl), rfl⟩
theorem fp_X10_283_11 : FP RX10 283 11 27 (tyX10 27) true := ⟨_, _, _, _, tyX10, rfl, in_X10, by decide, Or.inl q1436, Or.inl rfl, tyX10_ok, nmX10, rfl, (fun _ => rfl), rfl⟩
theorem fp_X10_274_11 : FP RX10 274 11 28 (tyX10 28) true := ⟨_, _, _, _, tyX10, rfl, in_X10, by decide, Or.inl q1437, Or.inl rfl, tyX10_ok, nmX10, rfl, (fun _ => rfl), rfl⟩
theorem fp_X10_286_11 : FP RX10 286 11 29 (tyX10 29) true := ⟨_, _, _, _, tyX10, rfl, in_X10, by decide, Or.inl q1438, Or.inl rfl, tyX10_ok, nmX10, rfl, (fun _ => rfl), rfl⟩
theorem fp_X10_296_11 : FP RX10 296 11 30 (tyX10 30) true := ⟨_, _, _, _, tyX10, rfl, in_X10, by decide, Or.inl q1439, Or.inl rfl, tyX10_ok, nmX10, rfl, (fun _ => rfl), rfl⟩
theorem fp_X10_305_11 : FP RX10 305 11 31 (tyX10 31) true := ⟨_, _, _, _, tyX10, rfl, in_X10, by decide, Or.inl q1440, Or.inl rfl, tyX10_ok, nmX10, rfl, (fun _ => rfl), rfl⟩
theorem fp_X10_328_11 : FP RX10 328 11 32 (tyX10 32) true := ⟨_, _, _, _, tyX10, rfl, in_X10, by decide, Or.inl q1441, Or.inl rfl, tyX10_ok, nmX10, rfl, (fun _ => rfl), rfl⟩
theorem fp_X10_319_11 : FP RX10 319 11 34 (tyX10 34) true := ⟨_, _, _, _, tyX10, rfl, in_X10, by decide, Or.inl q1443, Or.inl rfl, tyX10_ok, nmX10, rfl, (fun _ => rfl), rfl⟩
theorem fp_X10_343_11 : FP RX10 343 11 36 (tyX10 36) true := ⟨_, _, _, _, tyX10, rfl, in_X10, by decide, Or.inl q1445, Or.inl rfl, tyX10_ok, nmX10, rfl, (fun _ => rfl), rfl⟩
theorem fp_X10_346_11 : FP RX10 346 11 37 (tyX10 37) true := ⟨_, _, _, _, tyX10, rfl, in_X10, by decide, Or.inl q1446, Or.inl rfl, tyX10_ok, nmX10, rfl, (fun _ => rfl), rfl⟩
theorem fp_X10_349_11 : FP RX10 349 11 38 (tyX10 38) true := ⟨_, _, _, _, tyX10, rfl, in_X10, by decide, Or.inl q1447, Or.inl rfl, tyX10_ok, nmX10, rfl, (fun _ => rfl), rfl⟩
theorem fp_X10_391_11 : FP RX10 391 11 39 (tyX10 39) true := ⟨_, _, _, _, tyX10, rfl, in_X10, by decide, Or.inl q1448, Or.inl rfl, tyX10_ok, nmX10, rfl, (fun _ => rfl), rfl⟩
theorem fp_X10_366_11 : FP RX10 366 11 40 (tyX10 40) true := ⟨_, _, _, _, tyX10, rfl, in_X10, by decide, Or.inl q1449, Or.inl rfl, tyX10_ok, nmX10, rfl, (fun _ => rfl), rfl⟩
theorem fp_X10_368_11 : FP RX10 368 11 41 (tyX10 41) true := ⟨_, _, _, _, tyX10, rfl, in_X10, by decide, Or.inl q1450, Or.inl rfl, tyX10_ok, nmX10, rfl, (fun _ => rfl), rfl⟩
theorem fp_X10_374_11 : FP RX10 374 11 42 (tyX10 42) true := ⟨_, _, _, _, tyX10, rfl, in_X10, by decide, Or.inl q1451, Or.inl rfl, tyX10_ok, nmX10, rfl, (fun _ => rfl), rfl⟩
theorem fp_X10_380_11 : FP RX10 380 11 43 (tyX10 43) true := ⟨_, _, _, _, tyX10, rfl, in_X10, by decide, Or.inl q1452, Or.inl rfl, tyX10_ok, nmX10, rfl, (fun _ => rfl), rfl⟩
theorem fp_X10_377_11 : FP RX10 377 11 44 (tyX10 44) true := ⟨_, _, _, _, tyX10, rfl, in_X10, by decide, Or.inl q1453, Or.inl rfl, tyX10_ok, nmX10, rfl, (fun _ => rfl), rfl⟩
theorem fp_X10_371_11 : FP RX10 371 11 45 (tyX10 45) true := ⟨_, _, _, _, tyX10, rfl, in_X10, by decide, Or.inl q1454, Or.inl rfl, tyX10_ok, nmX10, rfl, (fun _ => rfl), rfl⟩
theorem fp_X10_385_11 : FP RX10 385 11 46 (tyX10 46) true := ⟨_, _, _, _, tyX10, rfl, in_X10, by decide, Or.inl q1455, Or.inl rfl, tyX10_ok, nmX10, rfl, (fun _ => rfl), rfl⟩
theorem fp_X10_388_11 : FP RX10 388 11 47 (tyX10 47) true := ⟨_, _, _, _, tyX10, rfl, in_X10, by decide, Or.inl q1456, Or.inl rfl, tyX10_ok, nmX10, rfl, (fun _ => rfl), rfl⟩
theorem fp_X10_422_11 : FP RX10 422 11 48 (tyX10 48) true := ⟨_, _, _, _, tyX10, rfl, in_X10, by decide, Or.inl q1457, Or.inl rfl, tyX10_ok, nmX10, rfl, (fun _ => rfl), rfl⟩
theorem fp_X10_429_11 : FP RX10 429 11 49 (tyX10 49) true := ⟨_, _, _, _, tyX10, rfl, in_X10, by decide, Or.inl q1458, Or.inl rfl, tyX10_ok, nmX10, rfl, (fun _ => rfl), rfl⟩
theorem fp_X10_417_11 : FP RX10 417 11 50 (tyX10 50) true := ⟨_, _, _, _, tyX10, rfl, in_X10, by decide, Or.inl q1459, Or.inl rfl, tyX10_ok, nmX10, rfl, (fun _ => rfl), rfl⟩
theorem fp_X10_419_11 : FP RX10 419 11 51 (tyX10 51) true := ⟨_, _, _, _, tyX10, rfl, in_X10, by decide, Or.inl q1460, Or.inl rfl, tyX10_ok, nmX10, rfl, (fun _ => rfl), rfl⟩
theorem fp_X10_450_11 : FP RX10 450 11 52 (tyX10 52) true := ⟨_, _, _, _, tyX10, rfl, in_X10, by decide, Or.inl q1461, Or.inl rfl, tyX10_ok, nmX10, rfl, (fun _ => rfl), rfl⟩
theorem fp_X10_453_11 : FP RX10 453 11 53 (tyX10 53) true := ⟨_, _, _, _, tyX10, rfl, in_X10, by decide, Or.inl q1462, Or.inl rfl, tyX10_ok, nmX10, rfl, (fun _ => rfl), rfl⟩
theorem fp_X10_443_11 : FP RX10 443 11 54 (tyX10 54) true := ⟨_, _, _, _, tyX10, rfl, in_X10, by decide, Or.inl q1463, Or.inl rfl, tyX10_ok, nmX10, rfl, (fun _ => rfl), rfl⟩
theorem fp_X10_414_11 : FP RX10 414 11 55 (tyX10 55) true := ⟨_, _, _, _, tyX10, rfl, in_X10, by decide, Or.inl q1464, Or.inl rfl, tyX10_ok, nmX10, rfl, (fun _ => rfl), rfl⟩
theorem fp_X10_402_11 : FP RX10 402 11 56 (tyX10 56) true := ⟨_, _, _, _, tyX10, rfl, in_X10, by decide, Or.inl q1465, Or.inl rfl, tyX10_ok, nmX10, rfl, (fun _ => rfl), rfl⟩
theorem fp_X10_437_11 : FP RX10 437 11 57 (tyX10 57) true := ⟨_, _, _, _, tyX10, rfl, in_X10, by decide, Or.inl q1466, Or.inl rfl, tyX10_ok, nmX10, rfl, (fun _ => rfl), rfl⟩
theorem fp_X10_468_11 : FP RX10 468 11 58 (tyX10 58) true := ⟨_, _, _, _, tyX10, rfl, in_X10, by decide, Or.inl q1467, Or.inl rfl, tyX10_ok, nmX10, rfl, (fun _ => rfl), rfl⟩
theorem fp_X10_479_11 : FP RX10 479 11 59 (tyX10 59) true := ⟨_, _, _, _, tyX10, rfl, in_X10, by decide, Or.inl q1468, Or.inl rfl, tyX10_ok, nmX10, rfl, (fun _ => rfl), rfl⟩
theorem fp_X10_482_11 : FP RX10 482 11 60 (tyX10 60) true := ⟨_, _, _, _, tyX10, rfl, in_X10, by decide, Or.inl q1469, Or.inl rfl, tyX10_ok, nmX10, rfl, (fun _ => rfl), rfl⟩
theorem fp_X10_492_11 : FP RX10 492 11 61 (tyX10 61) true := ⟨_, _, _, _, tyX10, rfl, in_X10, by decide, Or.inl q1470, Or.inl rfl, tyX10_ok, nmX10, rfl, (fun _ => rfl), rfl⟩
theorem fp_X10_495_11 : FP RX10 495 11 62 (tyX10 62) true := ⟨_, _, _, _, tyX10, rfl, in_X10, by decide, Or.inl q1471, Or.inl rfl, tyX10_ok, nmX10, rfl, (fun _ => rfl), rfl⟩
theorem fp_X10_499_11 : FP RX10 499 11 63 (tyX10 63) true := ⟨_, _, _, _, tyX10, rfl, in_X10, by decide, Or.inl q1472, Or.inl rfl, tyX10_ok, nmX10, rfl, (fun _ => rfl), rfl⟩
theorem fp_X10_475_11 : FP RX10 475 11 64 (tyX10 64) true := ⟨_, _, _, _, tyX10, rfl, in_X10, by decide, Or.inl q1473, Or.inl rfl, tyX10_ok, nmX10, rfl, (fun _ => rfl), rfl⟩
theorem fp_X10_458_11 : FP RX10 458 11 65 (tyX10 65) true := ⟨_, _, _, _, tyX10, rfl, in_X10, by decide, Or.inl q1474, Or.inl rfl, tyX10_ok, nmX10, rfl, (fun _ => rfl), rfl⟩
theorem fp_X10_503_11 : FP RX10 503 11 66 (tyX10 66) true := ⟨_, _, _, _, tyX10, rfl, in_X10, by decide, Or.inl q1475, Or.inl rfl, tyX10_ok, nmX10, rfl, (fun _ => rfl), rfl⟩
theorem fp_X10_507_11 : FP RX10 507 11 67 (tyX10 67) true := ⟨_, _, _, _, tyX10, rfl, in_X10, by decide, Or.inl q1476, Or.inl rfl, tyX10_ok, nmX10, rfl, (fun _ => rfl), rfl⟩
theorem fp_X10_510_11 : FP RX10 510 11 68 (tyX10 68) true := ⟨_, _, _, _, tyX10, rfl, in_X10, by decide, Or.inl q1477, Or.inl rfl, tyX10_ok, nmX10, rfl, (fun _ => rfl), rfl⟩
theorem fp_X10_513_11 : FP RX10 513 11 69 (tyX10 69) true := ⟨_, _, _, _, tyX10, rfl, in_X10, by decide, Or.inl q1478, Or.inl rfl, tyX10_ok, nmX10, rfl, (fun _ => rfl), rfl⟩
theorem fp_X10_516_11 : FP RX10 516 11 71 (tyX10 71) true := ⟨_, _, _, _, tyX10, rfl, in_X10, by decide, Or.inl q1480, Or.inl rfl, tyX10_ok, nmX10, rfl, (fun _ => rfl), rfl⟩
theorem fp_X10_519_11 : FP RX10 519 11 72 (tyX10 72) true := ⟨_, _, _, _, tyX10, rfl, in_X10, by decide, Or.inl q1481, Or.inl rfl, tyX10_ok, nmX10, rfl, (fun _ => rfl), rfl⟩
theorem fp_X10_522_11 : FP RX10 522 11 73 (tyX10 73) true := ⟨_, _, _, _, tyX10, rfl, in_X10, by decide, Or.inl q1482, Or.inl rfl, tyX10_ok, nmX10, rfl, (fun _ => rfl), rfl⟩
theorem fp_X10_525_11 : FP RX10 525 11 74 (tyX10 74) true := ⟨_, _, _, _, tyX10, rfl, in_X10, by decide, Or.inl q1483, Or.inl rfl, tyX10_ok, nmX10, rfl, (fun _ => rfl), rfl⟩
theorem fp_X10_528_11 : FP RX10 528 11 76 (tyX10 76) true := ⟨_, _, _, _, tyX10, rfl, in_X10, by decide, Or.inl q1485, Or.inl rfl, tyX10_ok, nmX10, rfl, (fun _ => rfl), rfl⟩
theorem fp_X10_534_11 : FP RX10 534 11 81 (tyX10 81) true := ⟨_, _, _, _, tyX10, rfl, in_X10, by decide, Or.inl q1490, Or.inl rfl, tyX10_ok, nmX10, rfl, (fun _ => rfl), rfl⟩
theorem fp_X10_537_11 : FP RX10 537 11 83 (tyX10 83) true := ⟨_, _, _, _, tyX10, rfl, in_X10, by decide, Or.inl q1492, Or.inl rfl, tyX10_ok, nmX10, rfl, (fun _ => rfl), rfl⟩
theorem fp_X10_540_11 : FP RX10 540 11 85 (tyX10 85) true := ⟨_, _, _, _, tyX10, rfl, in_X10, by decide, Or.inl q1494, Or.inl rfl, tyX10_ok, nmX10, rfl, (fun _ => rfl), rfl⟩
theorem fp_X10_543_11 : FP RX10 543 11 86 (tyX10 86) true := ⟨_, _, _, _, tyX10, rfl, in_X10, by decide, Or.inl q1495, Or.inl rfl, tyX10_ok, nmX10, rfl, (fun _ => rfl), rfl⟩
theorem fp_X10_546_11 : FP RX10 546 11 87 (tyX10 87) true := ⟨_, _, _, _, tyX10, rfl, in_X10, by decide, Or.inl q1496, Or.inl rfl, tyX10_ok, nmX10, rfl, (fun _ => rfl), rfl⟩
theorem fp_X10_549_11 : FP RX10 549 11 88 (tyX10 88) true := ⟨_, _, _, _, tyX10, rfl, in_X10, by decide, Or.inl q1497, Or.inl rfl, tyX10_ok, nmX10, rfl, (fun _ => rfl), rfl⟩
theorem fp_X10_552_11 : FP RX10 552 11 89 (tyX10 89) true := ⟨_, _, _, _, tyX10, rfl, in_X10, by decide, Or.inl q1498, Or.inl rfl, tyX10_ok, nmX10, rfl, (fun _ => rfl), rfl⟩
theorem fp_X10_555_11 : FP RX10 555 11 90 (tyX10 90) true := ⟨_, _, _, _, tyX10, rfl, in_X10, by decide, Or.inl q1499, Or.inl rfl, tyX10_ok, nmX10, rfl, (fun _ => rfl), rfl⟩
theorem fp_X10_558_11 : FP RX10 558 11 91 (tyX10 91) true := ⟨_, _, _, _, tyX10, rfl, in_X10, by decide, Or.inl q1500, Or.inl rfl, tyX10_ok, nmX10, rfl, (fun _ => rfl), rfl⟩
theorem fp_X10_561_11 : FP RX10 561 11 92 (tyX10 92) true := ⟨_, _, _, _, tyX10, rfl, in_X10, by decide, Or.inl q1501, Or.inl rfl, tyX10_ok, nmX10, rfl, (fun _ => rfl), rfl⟩
theorem fp_X10_564_11 : FP RX10 564 11 93 (tyX10 93) true := ⟨_, _, _, _, tyX10, rfl, in_X10, by decide, Or.inl q1502, Or.inl rfl, tyX10_ok, nmX10, rfl, (fun _ => rfl), rfl⟩
theorem fp_X10_567_11 : FP RX10 567 11 94 (tyX10 94) true := ⟨_, _, _, _, tyX10, rfl, in_X10, by decide, Or.inl q1503, Or.inl rfl, tyX10_ok, nmX10, rfl, (fun _ => rfl), rfl⟩
theorem fp_X10_570_11 : FP RX10 570 11 95 (tyX10 95) true := ⟨_, _, _, _, tyX10, rfl, in_X10, by decide, Or.inl q1504, Or.inl rfl, tyX10_ok, nmX10, rfl, (fun _ => rfl), rfl⟩
theorem cv_X10_573_12 : CV RX10 573 12 MX11_is := ⟨_, _, _, rfl, wX11_is, q117, q1380, Or.inl ⟨q1379, q1381, by decide, by decide⟩⟩
theorem fg_X10_465_11 : FG RX10 465 11 11 := FG.of rfl in_X10 (by decide) q1420 rfl
theorem fg_X10_458_11 : FG RX10 458 11 65 := FG.of rfl in_X10 (by decide) q1474 rfl
theorem fg_X10_210_11 : FG RX10 210 11 16 := FG.of rfl in_X10 (by decide) q1425 rfl
theorem fg_X10_377_11 : FG RX10 377 11 44 := FG.of rfl in_X10 (by decide) q1453 rfl
theorem fg_X10_371_11 : FG RX10 371 11 45 := FG.of rfl in_X10 (by decide) q1454 rfl
theorem fg_X10_110_11 : FG RX10 110 11 5 := FG.of rfl in_X10 (by decide) q1414 rfl
theorem fg_X10_113_11 : FG RX10 113 11 6 := FG.of rfl in_X10 (by decide) q1415 rfl
theorem fg_X10_116_11 : FG RX10 116 11 7 := FG.of rfl in_X10 (by decide) q1416 rfl
theorem fg_X10_119_11 : FG RX10 119 11 8 := FG.of rfl in_X10 (by decide) q1417 rfl
theorem cs_X10_126 : CS RX10 126 MX10_halves := ⟨wX10_halves, q116, q1814, q1813, by decide, by decide⟩
theorem cs_X10_133 : CS RX10 133 MX10_swap := ⟨wX10_swap, q116, q1817, q1816, by decide, by decide⟩
theorem cs_X10_701 : CS RX10 701 MX10_slot := ⟨wX10_slot, q116, q2105, q2104, by decide, by decide⟩
theorem cv_X10_461_11 : CV RX10 461 11 MX10_composes := ⟨_, _, _, rfl, wX10_composes, q116, q2024, Or.inl ⟨q2022, qs80, by decide, by decide⟩⟩
theorem fg_X10_482_11 : FG RX10 482 11 60 := FG.of rfl in_X10 (by decide) q1469 rfl
theorem cv_X10_471_11 : CV RX10 471 11 MX10_challenges := ⟨_, _, _, rfl, wX10_challenges, q116, q2047, Or.inl ⟨q2045, qs85, by decide, by decide⟩⟩
theorem cv_X10_658_11 : CV RX10 658 11 MX10_isType := ⟨_, _, _, rfl, wX10_isType, q116, q2004, Or.inl ⟨q2002, qs75, by decide, by decide⟩⟩
theorem cv_X10_661_11 : CV RX10 661 11 MX10_keyOf := ⟨_, _, _, rfl, wX10_keyOf, q116, q2008, Or.inl ⟨q2006, qs76, by decide, by decide⟩⟩
theorem cv_X10_664_11 : CV RX10 664 11 MX10_gives := ⟨_, _, _, rfl, wX10_gives, q116, q2012, Or.inl ⟨q2010, qs77, by decide, by decide⟩⟩
theorem cv_X10_667_11 : CV RX10 667 11 MX10_signs := ⟨_, _, _, rfl, wX10_signs, q116, q2052, Or.inl ⟨q2050, qs86, by decide, by decide⟩⟩
theorem cv_X10_142_13 : CV RX10 142 13 MX12_is := ⟨_, _, _, rfl, wX12_is, q118, q1748, Or.inl ⟨q1747, q1749, by decide, by decide⟩⟩
theorem cv_X10_615_11 : CV RX10 615 11 MX10_keyOne := ⟨_, _, _, rfl, wX10_keyOne, q116, q1729, Or.inl ⟨q1727, qs33, by decide, by decide⟩⟩
theorem cv_X10_619_11 : CV RX10 619 11 MX10_keyTwo := ⟨_, _, _, rfl, wX10_keyTwo, q116, q1867, Or.inl ⟨q1865, qs53, by decide, by decide⟩⟩
theorem fg_X10_499_11 : FG RX10 499 11 63 := FG.of rfl in_X10 (by decide) q1472 rfl
theorem cv_X10_629_11 : CV RX10 629 11 MX10_comes := ⟨_, _, _, rfl, wX10_comes, q116, q1821, Or.inl ⟨q1819, qs45, by decide, by decide⟩⟩
theorem cv_X10_636_11 : CV RX10 636 11 MX10_noKey := ⟨_, _, _, rfl, wX10_noKey, q116, q1876, Or.inl ⟨q1874, qs54, by decide, by decide⟩⟩
theorem fg_X10_366_11 : FG RX10 366 11 40 := FG.of rfl in_X10 (by decide) q1449 rfl
theorem fg_X10_368_11 : FG RX10 368 11 41 := FG.of rfl in_X10 (by decide) q1450 rfl
theorem fg_X10_374_11 : FG RX10 374 11 42 := FG.of rfl in_X10 (by decide) q1451 rfl
theorem fg_X10_380_11 : FG RX10 380 11 43 := FG.of rfl in_X10 (by decide) q1452 rfl
theorem fg_X10_207_11 : FG RX10 207 11 24 := FG.of rfl in_X10 (by decide) q1433 rfl
theorem fg_X10_192_11 : FG RX10 192 11 12 := FG.of rfl in_X10 (by decide) q1421 rfl
theorem cv_X10_196_11 : CV RX10 196 11 MX10_doubles := ⟨_, _, _, rfl, wX10_doubles, q116, q1754, Or.inl ⟨q1752, qs35, by decide, by decide⟩⟩
theorem cv_X10_200_11 : CV RX10 200 11 MX10_steps := ⟨_, _, _, rfl, wX10_steps, q116, q1807, Or.inl ⟨q1805, qs43, by decide, by decide⟩⟩
theorem fg_X10_88_11 : FG RX10 88 11 3 := FG.of rfl in_X10 (by decide) q1412 rfl
theorem fg_X10_95_11 : FG RX10 95 11 4 := FG.of rfl in_X10 (by decide) q1413 rfl
theorem fp_X10_704_11 : FP RX10 704 11 80 (tyX10 80) false := ⟨_, _, _, _, tyX10, rfl, in_X10, by decide, Or.inl q1489, Or.inl rfl, tyX10_ok, nmX10, rfl, (fun e => by cases e), rfl⟩
theorem cv_X10_707_11 : CV RX10 707 11 MX10_isRight := ⟨_, _, _, rfl, wX10_isRight, q116, q2097, Or.inl ⟨q2095, qs93, by decide, by decide⟩⟩
theorem cv_X10_712_11 : CV RX10 712 11 MX10_isFree := ⟨_, _, _, rfl, wX10_isFree, q116, q2102, Or.inl ⟨q2100, qs94, by decide, by decide⟩⟩
theorem cv_X10_715_11 : CV RX10 715 11 MX10_isIn := ⟨_, _, _, rfl, wX10_isIn, q116, q2109, Or.inl ⟨q2107, qs95, by decide, by decide⟩⟩
theorem fp_X10_718_11 : FP RX10 718 11 77 (tyX10 77) false := ⟨_, _, _, _, tyX10, rfl, in_X10, by decide, Or.inl q1486, Or.inl rfl, tyX10_ok, nmX10, rfl, (fun e => by cases e), rfl⟩
theorem fp_X10_721_11 : FP RX10 721 11 79 (tyX10 79) false := ⟨_, _, _, _, tyX10, rfl, in_X10, by decide, Or.inl q1488, Or.inl rfl, tyX10_ok, nmX10, rfl, (fun e => by cases e), rfl⟩
theorem cv_X10_643_11 : CV RX10 643 11 MX10_blindsOne := ⟨_, _, _, rfl, wX10_blindsOne, q116, q1892, Or.inl ⟨q1890, qs55, by decide, by decide⟩⟩
theorem cv_X10_646_11 : CV RX10 646 11 MX10_blindsTwo := ⟨_, _, _, rfl, wX10_blindsTwo, q116, q1970, Or.inl ⟨q1968, qs70, by decide, by decide⟩⟩
theorem fp_X10_640_11 : FP RX10 640 11 75 (tyX10 75) false := ⟨_, _, _, _, tyX10, rfl, in_X10, by decide, Or.inl q1484, Or.inl rfl, tyX10_ok, nmX10, rfl, (fun e => by cases e), rfl⟩
theorem fg_X10_33_12 : FG RX10 33 12 3 := FG.ofN rfl in_X11 (by decide) q1344 rfl
theorem fg_X10_39_12 : FG RX10 39 12 1 := FG.ofN rfl in_X11 (by decide) q1340 rfl
theorem cs_X10_42 : CS RX10 42 MJ8_divideUnsigned := ⟨wJ8_divideUnsigned, q122, q1777, q1776, by decide, by decide⟩
theorem cs_X10_48 : CS RX10 48 MJ8_remainderUnsigned := ⟨wJ8_remainderUnsigned, q122, q1781, q1780, by decide, by decide⟩
theorem cs_X10_53 : CS RX10 53 MJ8_compareUnsigned := ⟨wJ8_compareUnsigned, q122, q1785, q1784, by decide, by decide⟩
theorem cv_X10_57_11 : CV RX10 57 11 MX10_takes := ⟨_, _, _, rfl, wX10_takes, q116, q1793, Or.inl ⟨q1791, qs41, by decide, by decide⟩⟩
theorem cv_X10_316_11 : CV RX10 316 11 MX10_context := ⟨_, _, _, rfl, wX10_context, q116, q1911, Or.inl ⟨q1909, qs59, by decide, by decide⟩⟩
theorem fp_X10_322_11 : FP RX10 322 11 35 (tyX10 35) false := ⟨_, _, _, _, tyX10, rfl, in_X10, by decide, Or.inl q1444, Or.inl rfl, tyX10_ok, nmX10, rfl, (fun e => by cases e), rfl⟩
theorem fg_X10_1_11 : FG RX10 1 11 0 := FG.of rfl in_X10 (by decide) q1409 rfl
theorem cv_X10_65_11 : CV RX10 65 11 MX10_folds := ⟨_, _, _, rfl, wX10_folds, q116, q1762, Or.inl ⟨q1760, qs37, by decide, by decide⟩⟩
theorem cv_X10_357_11 : CV RX10 357 11 MX10_expands := ⟨_, _, _, rfl, wX10_expands, q116, q1917, Or.inl ⟨q1915, qs60, by decide, by decide⟩⟩
theorem fg_X10_385_11 : FG RX10 385 11 46 := FG.of rfl in_X10 (by decide) q1455 rfl
theorem cv_X10_363_11 : CV RX10 363 11 MX10_field := ⟨_, _, _, rfl, wX10_field, q116, q1941, Or.inl ⟨q1939, qs64, by decide, by decide⟩⟩
theorem fg_X10_388_11 : FG RX10 388 11 47 := FG.of rfl in_X10 (by decide) q1456 rfl
theorem fg_X10_391_11 : FG RX10 391 11 39 := FG.of rfl in_X10 (by decide) q1448 rfl
theorem cv_X10_394_11 : CV RX10 394 11 MX10_map := ⟨_, _, _, rfl, wX10_map, q116, q1945, Or.inl ⟨q1943, qs65, by decide, by decide⟩⟩
theorem fg_X10_305_11 : FG RX10 305 11 31 := FG.of rfl in_X10 (by decide) q1440 rfl
theorem cs_X10_308 : CS RX10 308 MX10_roll_2 := ⟨wX10_roll_2, q116, q1934, q1933, by decide, by decide⟩
theorem fg_X11_18_12 : FG RX11 18 12 2 := FG.of rfl in_X11 (by decide) q1341 rfl
theorem fg_X11_28_12 : FG RX11 28 12 3 := FG.of rfl in_X11 (by decide) q1343 rfl
theorem fp_X11_9_12 : FP RX11 9 12 0 (tyX11 0) true := ⟨_, _, _, _, tyX11, rfl, in_X11, by decide, Or.inl q1337, Or.inl rfl, tyX11_ok, nmX11, rfl, (fun _ => rfl), rfl⟩
theorem fp_X11_15_12 : FP RX11 15 12 1 (tyX11 1) true := ⟨_, _, _, _, tyX11, rfl, in_X11, by decide, Or.inl q1339, Or.inl rfl, tyX11_ok, nmX11, rfl, (fun _ => rfl), rfl⟩
theorem fp_X11_18_12 : FP RX11 18 12 2 (tyX11 2) false := ⟨_, _, _, _, tyX11, rfl, in_X11, by decide, Or.inl q1341, Or.inl rfl, tyX11_ok, nmX11, rfl, (fun e => by cases e), rfl⟩
theorem fg_X11_9_12 : FG RX11 9 12 0 := FG.of rfl in_X11 (by decide) q1337 rfl
theorem cs_X11_22 : CS RX11 22 MJ4_numberOfLeadingZeros := ⟨wJ4_numberOfLeadingZeros, q109, q755, q1383, by decide, by decide⟩
theorem fp_X11_28_12 : FP RX11 28 12 3 (tyX11 3) false := ⟨_, _, _, _, tyX11, rfl, in_X11, by decide, Or.inl q1343, Or.inl rfl, tyX11_ok, nmX11, rfl, (fun e => by cases e), rfl⟩
theorem fg_X11_15_12 : FG RX11 15 12 1 := FG.of rfl in_X11 (by decide) q1339 rfl
theorem fp_X12_9_13 : FP RX12 9 13 0 (tyX12 0) true := ⟨_, _, _, _, tyX12, rfl, in_X12, by decide, Or.inl q1360, Or.inl rfl, tyX12_ok, nmX12, rfl, (fun _ => rfl), rfl⟩
theorem fp_X12_15_13 : FP RX12 15 13 1 (tyX12 1) true := ⟨_, _, _, _, tyX12, rfl, in_X12, by decide, Or.inl q1362, Or.inl rfl, tyX12_ok, nmX12, rfl, (fun _ => rfl), rfl⟩
theorem fg_X12_9_13 : FG RX12 9 13 0 := FG.of rfl in_X12 (by decide) q1360 rfl
theorem csn_X12_18 : CSN RX12 18 MX10_copy := ⟨rfl, wX10_copy, q116, q1389, ⟨_, q1751⟩, by decide, by decide⟩
theorem fg_X12_15_13 : FG RX12 15 13 1 := FG.of rfl in_X12 (by decide) q1362 rfl
theorem fg_X12_22_13 : FG RX12 22 13 2 := FG.of rfl in_X12 (by decide) q1364 rfl
theorem fp_X12_22_13 : FP RX12 22 13 2 (tyX12 2) false := ⟨_, _, _, _, tyX12, rfl, in_X12, by decide, Or.inl q1364, Or.inl rfl, tyX12_ok, nmX12, rfl, (fun e => by cases e), rfl⟩
theorem fp_X13_7_9 : FP RX13 7 9 0 (tyX14 0) true := ⟨_, _, _, _, tyX14, rfl, in_X14, by decide, Or.inl q698, Or.inl rfl, tyX14_ok, nmX14, rfl, (fun _ => rfl), rfl⟩
theorem fp_X13_7_10 : FP RX13 7 10 0 (tyX15 0) true := ⟨_, _, _, _, tyX15, rfl, in_X15, by decide, Or.inl q698, Or.inl rfl, tyX15_ok, nmX15, rfl, (fun _ => rfl), rfl⟩
theorem fp_X13_13_9 : FP RX13 13 9 2 (tyX14 2) false := ⟨_, _, _, _, tyX14, rfl, in_X14, by decide, Or.inl q702, Or.inl rfl, tyX14_ok, nmX14, rfl, (fun e => by cases e), rfl⟩
theorem fp_X13_13_10 : FP RX13 13 10 2 (tyX15 2) false := ⟨_, _, _, _, tyX15, rfl, in_X15, by decide, Or.inl q702, Or.inl rfl, tyX15_ok, nmX15, rfl, (fun e => by cases e), rfl⟩
theorem fp_X13_17_9 : FP RX13 17 9 1 (tyX14 1) true := ⟨_, _, _, _, tyX14, rfl, in_X14, by decide, Or.inl q700, Or.inl rfl, tyX14_ok, nmX14, rfl, (fun _ => rfl), rfl⟩
theorem fp_X13_17_10 : FP RX13 17 10 1 (tyX15 1) true := ⟨_, _, _, _, tyX15, rfl, in_X15, by decide, Or.inl q700, Or.inl rfl, tyX15_ok, nmX15, rfl, (fun _ => rfl), rfl⟩
theorem fg_X14_15_9 : FG RX14 15 9 6 := FG.of rfl in_X14 (by decide) q686 rfl
theorem cv_X14_66_9 : CV RX14 66 9 MX14_isSecret := ⟨_, _, _, rfl, wX14_isSecret, q120, q616, Or.inl ⟨q614, qs3, by decide, by decide⟩⟩
theorem fg_X14_62_9 : FG RX14 62 9 4 := FG.of rfl in_X14 (by decide) q684 rfl
theorem cv_X14_70_6 : CV RX14 70 6 MX8_as := ⟨_, _, _, rfl, wX8_as, q114, q630, Or.inl ⟨q629, q631, by decide, by decide⟩⟩
theorem fg_X14_42_9 : FG RX14 42 9 13 := FG.of rfl in_X14 (by decide) q693 rfl
theorem cv_X14_126_9 : CV RX14 126 9 MX14_group := ⟨_, _, _, rfl, wX14_group, q120, q932, Or.inl ⟨q930, qs6, by decide, by decide⟩⟩
theorem fg_X14_58_9 : FG RX14 58 9 3 := FG.of rfl in_X14 (by decide) q683 rfl
theorem fg_X14_52_9 : FG RX14 52 9 16 := FG.of rfl in_X14 (by decide) q696 rfl
theorem cv_X14_81_3 : CV RX14 81 3 MX5_times := ⟨_, _, _, rfl, wX5_times, q102, q634, Or.inl ⟨q633, q635, by decide, by decide⟩⟩
theorem cv_X14_129_9 : CV RX14 129 9 MX14_write := ⟨_, _, _, rfl, wX14_write, q120, q1019, Or.inl ⟨q1017, qs13, by decide, by decide⟩⟩
theorem fg_X14_24_9 : FG RX14 24 9 9 := FG.of rfl in_X14 (by decide) q689 rfl
theorem fg_X14_31_9 : FG RX14 31 9 11 := FG.of rfl in_X14 (by decide) q691 rfl
theorem fg_X14_46_9 : FG RX14 46 9 14 := FG.of rfl in_X14 (by decide) q694 rfl
theorem fg_X14_49_9 : FG RX14 49 9 15 := FG.of rfl in_X14 (by decide) q695 rfl
theorem cv_X14_109_3 : CV RX14 109 3 MX5_begin := ⟨_, _, _, rfl, wX5_begin, q102, q935, Or.inl ⟨q934, q936, by decide, by decide⟩⟩
theorem cv_X14_144_1 : CV RX14 144 1 MX2_two := ⟨_, _, _, rfl, wX2_two, q99, q959, Or.inl ⟨q1129, q2139, by decide, by decide⟩⟩
theorem cv_X14_144_2 : CV RX14 144 2 MX2_two := ⟨_, _, _, rfl, wX2_two, q99, q959, Or.inl ⟨q1129, q2140, by decide, by decide⟩⟩
theorem cv_X14_113_1 : CV RX14 113 1 MX2_put := ⟨_, _, _, rfl, wX2_put, q99, q850, Or.inl ⟨q944, q852, by decide, by decide⟩⟩
theorem cv_X14_113_2 : CV RX14 113 2 MX2_put := ⟨_, _, _, rfl, wX2_put, q99, q850, Or.inl ⟨q944, q853, by decide, by decide⟩⟩
theorem cv_X14_150_1 : CV RX14 150 1 MX2_word := ⟨_, _, _, rfl, wX2_word, q99, q970, Or.inl ⟨q1131, q2136, by decide, by decide⟩⟩
theorem cv_X14_150_2 : CV RX14 150 2 MX2_word := ⟨_, _, _, rfl, wX2_word, q99, q970, Or.inl ⟨q1131, q2137, by decide, by decide⟩⟩
theorem cv_X14_167_3 : CV RX14 167 3 MX5_scalar := ⟨_, _, _, rfl, wX5_scalar, q102, q1138, Or.inl ⟨q1137, q1139, by decide, by decide⟩⟩
theorem fg_X14_137_3 : FG RX14 137 3 17 := FG.ofN rfl in_X5 (by decide) q378 rfl
theorem cv_X14_141_2 : CV RX14 141 2 MX2_begin := ⟨_, _, _, rfl, wX2_begin, q99, q818, Or.inr ⟨⟨"VeilMint$Digest384", "begin", "()LVeilMint$Digest;"⟩, "VeilMint$Digest", q1128, q939, Or.inr rfl, q940, rfl, by decide, by decide⟩⟩
theorem cv_X14_154_1 : CV RX14 154 1 MX2_put_2 := ⟨_, _, _, rfl, wX2_put_2, q99, q856, Or.inl ⟨q1132, q858, by decide, by decide⟩⟩
theorem cv_X14_154_2 : CV RX14 154 2 MX2_put_2 := ⟨_, _, _, rfl, wX2_put_2, q99, q856, Or.inl ⟨q1132, q859, by decide, by decide⟩⟩
theorem cv_X14_158_1 : CV RX14 158 1 MX2_end := ⟨_, _, _, rfl, wX2_end, q99, q889, Or.inl ⟨q1134, q2133, by decide, by decide⟩⟩
theorem cv_X14_158_2 : CV RX14 158 2 MX2_end := ⟨_, _, _, rfl, wX2_end, q99, q889, Or.inl ⟨q1134, q2134, by decide, by decide⟩⟩
theorem fg_X14_28_9 : FG RX14 28 9 10 := FG.of rfl in_X14 (by decide) q690 rfl
theorem cv_X14_162_5 : CV RX14 162 5 MX7_vanish := ⟨_, _, _, rfl, wX7_vanish, q110, q643, Or.inl ⟨q1135, q644, by decide, by decide⟩⟩
theorem fg_X14_18_9 : FG RX14 18 9 7 := FG.of rfl in_X14 (by decide) q687 rfl
theorem cv_X14_170_9 : CV RX14 170 9 MX14_read := ⟨_, _, _, rfl, wX14_read, q120, q1117, Or.inl ⟨q1115, qs20, by decide, by decide⟩⟩
theorem cv_X14_172_3 : CV RX14 172 3 MX5_add := ⟨_, _, _, rfl, wX5_add, q102, q657, Or.inl ⟨q1142, q658, by decide, by decide⟩⟩
theorem fg_X14_9_9 : FG RX14 9 9 5 := FG.of rfl in_X14 (by decide) q685 rfl
theorem fg_X14_200_8 : FG RX14 200 8 1 := FG.ofN rfl in_X16 (by decide) q1064 rfl
theorem fg_X14_205_8 : FG RX14 205 8 2 := FG.ofN rfl in_X16 (by decide) q1067 rfl
theorem fg_X14_89_3 : FG RX14 89 3 1 := FG.ofN rfl in_X5 (by decide) q360 rfl
theorem cv_X14_93_4 : CV RX14 93 4 MX6_read := ⟨_, _, _, rfl, wX6_read, q103, q619, Or.inl ⟨q618, q620, by decide, by decide⟩⟩
theorem cv_X14_178_9 : CV RX14 178 9 MX14_composites := ⟨_, _, _, rfl, wX14_composites, q120, q1126, Or.inl ⟨q1124, qs21, by decide, by decide⟩⟩
theorem fg_X14_76_3 : FG RX14 76 3 14 := FG.ofN rfl in_X5 (by decide) q374 rfl
theorem fg_X14_55_9 : FG RX14 55 9 17 := FG.of rfl in_X14 (by decide) q697 rfl
theorem cin_X14_39 : CIN RX14 39 MX7_init := ⟨rfl, rfl, wX7_init, q110, q321, rfl, ⟨_, q613⟩, by decide, by decide⟩
theorem cv_X14_208_5 : CV RX14 208 5 MX7_be := ⟨_, _, _, rfl, wX7_be, q110, q638, Or.inl ⟨q1307, q639, by decide, by decide⟩⟩
theorem cv_X14_182_9 : CV RX14 182 9 MX14_challenge := ⟨_, _, _, rfl, wX14_challenge, q120, q1145, Or.inl ⟨q1143, qs22, by decide, by decide⟩⟩
theorem cs_X14_211 : CS RX14 211 MX6_compare := ⟨wX6_compare, q103, q268, q1308, by decide, by decide⟩
theorem cv_X14_215_4 : CV RX14 215 4 MX6_inverse := ⟨_, _, _, rfl, wX6_inverse, q103, q670, Or.inl ⟨q1309, q671, by decide, by decide⟩⟩
theorem fg_X14_34_9 : FG RX14 34 9 12 := FG.of rfl in_X14 (by decide) q692 rfl
theorem cv_X14_219_9 : CV RX14 219 9 MX14_output := ⟨_, _, _, rfl, wX14_output, q120, q1195, Or.inl ⟨q1193, qs24, by decide, by decide⟩⟩
theorem cv_X14_119_3 : CV RX14 119 3 MX5_group := ⟨_, _, _, rfl, wX5_group, q102, q946, Or.inl ⟨q945, q947, by decide, by decide⟩⟩
theorem ci_X14_3 : CI RX14 3 MX13_init := ⟨rfl, rfl, wX13_init, q119, q609, rfl, q608, by decide, by decide⟩
theorem fp_X14_9_9 : FP RX14 9 9 5 (tyX14 5) true := ⟨_, _, _, _, tyX14, rfl, in_X14, by decide, Or.inl q685, Or.inl rfl, tyX14_ok, nmX14, rfl, (fun _ => rfl), rfl⟩
theorem fp_X14_15_9 : FP RX14 15 9 6 (tyX14 6) true := ⟨_, _, _, _, tyX14, rfl, in_X14, by decide, Or.inl q686, Or.inl rfl, tyX14_ok, nmX14, rfl, (fun _ => rfl), rfl⟩
theorem fp_X14_18_9 : FP RX14 18 9 7 (tyX14 7) true := ⟨_, _, _, _, tyX14, rfl, in_X14, by decide, Or.inl q687, Or.inl rfl, tyX14_ok, nmX14, rfl, (fun _ => rfl), rfl⟩
theorem fp_X14_21_9 : FP RX14 21 9 8 (tyX14 8) true := ⟨_, _, _, _, tyX14, rfl, in_X14, by decide, Or.inl q688, Or.inl rfl, tyX14_ok, nmX14, rfl, (fun _ => rfl), rfl⟩
theorem fp_X14_24_9 : FP RX14 24 9 9 (tyX14 9) true := ⟨_, _, _, _, tyX14, rfl, in_X14, by decide, Or.inl q689, Or.inl rfl, tyX14_ok, nmX14, rfl, (fun _ => rfl), rfl⟩
theorem fp_X14_28_9 : FP RX14 28 9 10 (tyX14 10) true := ⟨_, _, _, _, tyX14, rfl, in_X14, by decide, Or.inl q690, Or.inl rfl, tyX14_ok, nmX14, rfl, (fun _ => rfl), rfl⟩
theorem fp_X14_31_9 : FP RX14 31 9 11 (tyX14 11) true := ⟨_, _, _, _, tyX14, rfl, in_X14, by decide, Or.inl q691, Or.inl rfl, tyX14_ok, nmX14, rfl, (fun _ => rfl), rfl⟩
theorem fp_X14_34_9 : FP RX14 34 9 12 (tyX14 12) true := ⟨_, _, _, _, tyX14, rfl, in_X14, by decide, Or.inl q692, Or.inl rfl, tyX14_ok, nmX14, rfl, (fun _ => rfl), rfl⟩
theorem fp_X14_42_9 : FP RX14 42 9 13 (tyX14 13) true := ⟨_, _, _, _, tyX14, rfl, in_X14, by decide, Or.inl q693, Or.inl rfl, tyX14_ok, nmX14, rfl, (fun _ => rfl), rfl⟩
theorem fp_X14_46_9 : FP RX14 46 9 14 (tyX14 14) true := ⟨_, _, _, _, tyX14, rfl, in_X14, by decide, Or.inl q694, Or.inl rfl, tyX14_ok, nmX14, rfl, (fun _ => rfl), rfl⟩
theorem fp_X14_49_9 : FP RX14 49 9 15 (tyX14 15) true := ⟨_, _, _, _, tyX14, rfl, in_X14, by decide, Or.inl q695, Or.inl rfl, tyX14_ok, nmX14, rfl, (fun _ => rfl), rfl⟩
theorem fp_X14_52_9 : FP RX14 52 9 16 (tyX14 16) true := ⟨_, _, _, _, tyX14, rfl, in_X14, by decide, Or.inl q696, Or.inl rfl, tyX14_ok, nmX14, rfl, (fun _ => rfl), rfl⟩
theorem fp_X14_55_9 : FP RX14 55 9 17 (tyX14 17) true := ⟨_, _, _, _, tyX14, rfl, in_X14, by decide, Or.inl q697, Or.inl rfl, tyX14_ok, nmX14, rfl, (fun _ => rfl), rfl⟩
theorem fp_X14_58_9 : FP RX14 58 9 3 (tyX14 3) true := ⟨_, _, _, _, tyX14, rfl, in_X14, by decide, Or.inl q683, Or.inl rfl, tyX14_ok, nmX14, rfl, (fun _ => rfl), rfl⟩
theorem fp_X14_62_9 : FP RX14 62 9 4 (tyX14 4) true := ⟨_, _, _, _, tyX14, rfl, in_X14, by decide, Or.inl q684, Or.inl rfl, tyX14_ok, nmX14, rfl, (fun _ => rfl), rfl⟩
theorem cv_X14_85_3 : CV RX14 85 3 MX5_write := ⟨_, _, _, rfl, wX5_write, q102, q662, Or.inl ⟨q661, q663, by decide, by decide⟩⟩
theorem cs_X14_99 : CS RX14 99 MX6_isZero := ⟨wX6_isZero, q103, q627, q626, by decide, by decide⟩
theorem fg_X14_21_9 : FG RX14 21 9 8 := FG.of rfl in_X14 (by decide) q688 rfl
theorem cv_X14_186_4 : CV RX14 186 4 MX6_in := ⟨_, _, _, rfl, wX6_in, q103, q339, Or.inl ⟨q1148, q340, by decide, by decide⟩⟩
theorem cv_X14_190_4 : CV RX14 190 4 MX6_mul := ⟨_, _, _, rfl, wX6_mul, q103, q343, Or.inl ⟨q1149, q344, by decide, by decide⟩⟩
theorem cv_X14_194_4 : CV RX14 194 4 MX6_sub := ⟨_, _, _, rfl, wX6_sub, q103, q355, Or.inl ⟨q1150, q356, by decide, by decide⟩⟩
theorem cs_X14_197 : CS RX14 197 MX6_write := ⟨wX6_write, q103, q681, q1151, by decide, by decide⟩
theorem cv_X14_123_3 : CV RX14 123 3 MX5_read := ⟨_, _, _, rfl, wX5_read, q102, q1120, Or.inl ⟨q1119, q1121, by decide, by decide⟩⟩
theorem fg_X15_19_10 : FG RX15 19 10 5 := FG.of rfl in_X15 (by decide) q760 rfl
theorem fg_X15_23_10 : FG RX15 23 10 6 := FG.of rfl in_X15 (by decide) q761 rfl
theorem cv_X15_128_10 : CV RX15 128 10 MX15_encode := ⟨_, _, _, rfl, wX15_encode, q121, q1028, Or.inl ⟨q1026, qs14, by decide, by decide⟩⟩
theorem cv_X15_112_10 : CV RX15 112 10 MX15_length := ⟨_, _, _, rfl, wX15_length, q121, q1032, Or.inl ⟨q1030, qs15, by decide, by decide⟩⟩
theorem fg_X15_76_10 : FG RX15 76 10 15 := FG.of rfl in_X15 (by decide) q770 rfl
theorem fg_X15_79_10 : FG RX15 79 10 16 := FG.of rfl in_X15 (by decide) q771 rfl
theorem fg_X15_38_10 : FG RX15 38 10 8 := FG.of rfl in_X15 (by decide) q763 rfl
theorem fg_X15_57_10 : FG RX15 57 10 11 := FG.of rfl in_X15 (by decide) q766 rfl
theorem cv_X15_49_4 : CV RX15 49 4 MX6_read := ⟨_, _, _, rfl, wX6_read, q103, q619, Or.inl ⟨q751, q620, by decide, by decide⟩⟩
theorem fg_X15_131_4 : FG RX15 131 4 0 := FG.ofN rfl in_X6 (by decide) q281 rfl
theorem fg_X15_60_10 : FG RX15 60 10 12 := FG.of rfl in_X15 (by decide) q767 rfl
theorem cv_X15_133_4 : CV RX15 133 4 MX6_inverse := ⟨_, _, _, rfl, wX6_inverse, q103, q670, Or.inl ⟨q1051, q671, by decide, by decide⟩⟩
theorem fg_X15_15_10 : FG RX15 15 10 4 := FG.of rfl in_X15 (by decide) q759 rfl
theorem cv_X15_27_6 : CV RX15 27 6 MX8_as := ⟨_, _, _, rfl, wX8_as, q114, q630, Or.inl ⟨q748, q631, by decide, by decide⟩⟩
theorem cv_X15_137_4 : CV RX15 137 4 MX6_in := ⟨_, _, _, rfl, wX6_in, q103, q339, Or.inl ⟨q1052, q340, by decide, by decide⟩⟩
theorem fg_X15_42_10 : FG RX15 42 10 9 := FG.of rfl in_X15 (by decide) q764 rfl
theorem cv_X15_141_4 : CV RX15 141 4 MX6_pow := ⟨_, _, _, rfl, wX6_pow, q103, q1002, Or.inl ⟨q1053, q1003, by decide, by decide⟩⟩
theorem fg_X15_63_10 : FG RX15 63 10 13 := FG.of rfl in_X15 (by decide) q768 rfl
theorem cv_X15_145_4 : CV RX15 145 4 MX6_mul := ⟨_, _, _, rfl, wX6_mul, q103, q343, Or.inl ⟨q1054, q344, by decide, by decide⟩⟩
theorem cs_X15_124 : CS RX15 124 MX6_write := ⟨wX6_write, q103, q681, q1055, by decide, by decide⟩
theorem cv_X15_116_10 : CV RX15 116 10 MX15_salted := ⟨_, _, _, rfl, wX15_salted, q121, q1036, Or.inl ⟨q1034, qs16, by decide, by decide⟩⟩
theorem cv_X15_120_10 : CV RX15 120 10 MX15_mask := ⟨_, _, _, rfl, wX15_mask, q121, q1048, Or.inl ⟨q1046, qs17, by decide, by decide⟩⟩
theorem fg_X15_88_10 : FG RX15 88 10 7 := FG.of rfl in_X15 (by decide) q762 rfl
theorem fg_X15_155_8 : FG RX15 155 8 2 := FG.ofN rfl in_X16 (by decide) q1066 rfl
theorem fg_X15_160_8 : FG RX15 160 8 1 := FG.ofN rfl in_X16 (by decide) q1063 rfl
theorem cv_X15_163_10 : CV RX15 163 10 MX15_isRight := ⟨_, _, _, rfl, wX15_isRight, q121, q1199, Or.inl ⟨q1313, q2141, by decide, by decide⟩⟩
theorem ci_X15_3 : CI RX15 3 MX13_init := ⟨rfl, rfl, wX13_init, q119, q609, rfl, q746, by decide, by decide⟩
theorem fp_X15_9_10 : FP RX15 9 10 3 (tyX15 3) true := ⟨_, _, _, _, tyX15, rfl, in_X15, by decide, Or.inl q758, Or.inl rfl, tyX15_ok, nmX15, rfl, (fun _ => rfl), rfl⟩
theorem fp_X15_15_10 : FP RX15 15 10 4 (tyX15 4) true := ⟨_, _, _, _, tyX15, rfl, in_X15, by decide, Or.inl q759, Or.inl rfl, tyX15_ok, nmX15, rfl, (fun _ => rfl), rfl⟩
theorem fp_X15_19_10 : FP RX15 19 10 5 (tyX15 5) true := ⟨_, _, _, _, tyX15, rfl, in_X15, by decide, Or.inl q760, Or.inl rfl, tyX15_ok, nmX15, rfl, (fun _ => rfl), rfl⟩
theorem fp_X15_23_10 : FP RX15 23 10 6 (tyX15 6) true := ⟨_, _, _, _, tyX15, rfl, in_X15, by decide, Or.inl q761, Or.inl rfl, tyX15_ok, nmX15, rfl, (fun _ => rfl), rfl⟩
theorem ci_X15_35 : CI RX15 35 MX6_init := ⟨rfl, rfl, wX6_init, q103, q250, rfl, q750, by decide, by decide⟩
theorem fp_X15_38_10 : FP RX15 38 10 8 (tyX15 8) true := ⟨_, _, _, _, tyX15, rfl, in_X15, by decide, Or.inl q763, Or.inl rfl, tyX15_ok, nmX15, rfl, (fun _ => rfl), rfl⟩
theorem fp_X15_42_10 : FP RX15 42 10 9 (tyX15 9) true := ⟨_, _, _, _, tyX15, rfl, in_X15, by decide, Or.inl q764, Or.inl rfl, tyX15_ok, nmX15, rfl, (fun _ => rfl), rfl⟩
theorem fp_X15_46_10 : FP RX15 46 10 10 (tyX15 10) true := ⟨_, _, _, _, tyX15, rfl, in_X15, by decide, Or.inl q765, Or.inl rfl, tyX15_ok, nmX15, rfl, (fun _ => rfl), rfl⟩
theorem fg_X15_46_10 : FG RX15 46 10 10 := FG.of rfl in_X15 (by decide) q765 rfl
theorem cs_X15_53 : CS RX15 53 MX6_isZero := ⟨wX6_isZero, q103, q627, q752, by decide, by decide⟩
theorem fp_X15_57_10 : FP RX15 57 10 11 (tyX15 11) true := ⟨_, _, _, _, tyX15, rfl, in_X15, by decide, Or.inl q766, Or.inl rfl, tyX15_ok, nmX15, rfl, (fun _ => rfl), rfl⟩
theorem fp_X15_60_10 : FP RX15 60 10 12 (tyX15 12) true := ⟨_, _, _, _, tyX15, rfl, in_X15, by decide, Or.inl q767, Or.inl rfl, tyX15_ok, nmX15, rfl, (fun _ => rfl), rfl⟩
theorem fp_X15_63_10 : FP RX15 63 10 13 (tyX15 13) true := ⟨_, _, _, _, tyX15, rfl, in_X15, by decide, Or.inl q768, Or.inl rfl, tyX15_ok, nmX15, rfl, (fun _ => rfl), rfl⟩
theorem fp_X15_66_10 : FP RX15 66 10 14 (tyX15 14) true := ⟨_, _, _, _, tyX15, rfl, in_X15, by decide, Or.inl q769, Or.inl rfl, tyX15_ok, nmX15, rfl, (fun _ => rfl), rfl⟩
theorem fg_X15_66_10 : FG RX15 66 10 14 := FG.of rfl in_X15 (by decide) q769 rfl
theorem fp_X15_76_10 : FP RX15 76 10 15 (tyX15 15) true := ⟨_, _, _, _, tyX15, rfl, in_X15, by decide, Or.inl q770, Or.inl rfl, tyX15_ok, nmX15, rfl, (fun _ => rfl), rfl⟩
theorem fp_X15_79_10 : FP RX15 79 10 16 (tyX15 16) true := ⟨_, _, _, _, tyX15, rfl, in_X15, by decide, Or.inl q771, Or.inl rfl, tyX15_ok, nmX15, rfl, (fun _ => rfl), rfl⟩
theorem cs_X15_82 : CS RX15 82 MJ4_numberOfLeadingZeros := ⟨wJ4_numberOfLeadingZeros, q109, q755, q754, by decide, by decide⟩
theorem fp_X15_88_10 : FP RX15 88 10 7 (tyX15 7) true := ⟨_, _, _, _, tyX15, rfl, in_X15, by decide, Or.inl q762, Or.inl rfl, tyX15_ok, nmX15, rfl, (fun _ => rfl), rfl⟩
theorem cv_X15_148_4 : CV RX15 148 4 MX6_from := ⟨_, _, _, rfl, wX6_from, q103, q666, Or.inl ⟨q1155, q667, by decide, by decide⟩⟩
theorem cv_X15_167_10 : CV RX15 167 10 MX15_isCode := ⟨_, _, _, rfl, wX15_isCode, q121, q1203, Or.inl ⟨q1201, qs25, by decide, by decide⟩⟩
theorem cs_X15_151 : CS RX15 151 MX6_compare := ⟨wX6_compare, q103, q268, q1156, by decide, by decide⟩
theorem fg_X15_9_10 : FG RX15 9 10 3 := FG.of rfl in_X15 (by decide) q758 rfl
theorem cv_X15_91_2 : CV RX15 91 2 MX2_begin := ⟨_, _, _, rfl, wX2_begin, q99, q818, Or.inr ⟨⟨"VeilMint$Digest384", "begin", "()LVeilMint$Digest;"⟩, "VeilMint$Digest", q1038, q939, Or.inr rfl, q940, rfl, by decide, by decide⟩⟩
theorem cv_X15_97_1 : CV RX15 97 1 MX2_put := ⟨_, _, _, rfl, wX2_put, q99, q850, Or.inl ⟨q1039, q852, by decide, by decide⟩⟩
theorem cv_X15_97_2 : CV RX15 97 2 MX2_put := ⟨_, _, _, rfl, wX2_put, q99, q850, Or.inl ⟨q1039, q853, by decide, by decide⟩⟩
theorem cv_X15_111_1 : CV RX15 111 1 MX2_put_2 := ⟨_, _, _, rfl, wX2_put_2, q99, q856, Or.inl ⟨q1050, q858, by decide, by decide⟩⟩
theorem cv_X15_111_2 : CV RX15 111 2 MX2_put_2 := ⟨_, _, _, rfl, wX2_put_2, q99, q856, Or.inl ⟨q1050, q859, by decide, by decide⟩⟩
theorem cv_X15_103_1 : CV RX15 103 1 MX2_end := ⟨_, _, _, rfl, wX2_end, q99, q889, Or.inl ⟨q1040, q2133, by decide, by decide⟩⟩
theorem cv_X15_103_2 : CV RX15 103 2 MX2_end := ⟨_, _, _, rfl, wX2_end, q99, q889, Or.inl ⟨q1040, q2134, by decide, by decide⟩⟩
theorem cv_X15_107_2 : CV RX15 107 2 MX2_put_2 := ⟨_, _, _, rfl, wX2_put_2, q99, q856, Or.inr ⟨⟨"VeilMint$Digest384", "put", "(I)LVeilMint$Digest;"⟩, "VeilMint$Digest", q1041, q942, Or.inr rfl, q943, rfl, by decide, by decide⟩⟩
theorem cv_X15_110_2 : CV RX15 110 2 MX2_put := ⟨_, _, _, rfl, wX2_put, q99, q850, Or.inr ⟨⟨"VeilMint$Digest384", "put", "([BII)LVeilMint$Digest;"⟩, "VeilMint$Digest", q1042, q1043, Or.inr rfl, q1045, rfl, by decide, by decide⟩⟩
theorem fp_X16_7_8 : FP RX16 7 8 3 (tyX16 3) false := ⟨_, _, _, _, tyX16, rfl, in_X16, by decide, Or.inl q1068, Or.inl rfl, tyX16_ok, nmX16, rfl, (fun e => by cases e), rfl⟩
theorem fp_X16_13_8 : FP RX16 13 8 0 (tyX16 0) true := ⟨_, _, _, _, tyX16, rfl, in_X16, by decide, Or.inl q1060, Or.inl rfl, tyX16_ok, nmX16, rfl, (fun _ => rfl), rfl⟩
theorem fp_X16_17_8 : FP RX16 17 8 1 (tyX16 1) true := ⟨_, _, _, _, tyX16, rfl, in_X16, by decide, Or.inl q1062, Or.inl rfl, tyX16_ok, nmX16, rfl, (fun _ => rfl), rfl⟩
theorem fp_X16_21_8 : FP RX16 21 8 2 (tyX16 2) true := ⟨_, _, _, _, tyX16, rfl, in_X16, by decide, Or.inl q1065, Or.inl rfl, tyX16_ok, nmX16, rfl, (fun _ => rfl), rfl⟩
theorem fg_X1_86_0 : FG RX1 86 0 11 := FG.of rfl in_X1 (by decide) q535 rfl
theorem fg_X1_78_0 : FG RX1 78 0 10 := FG.of rfl in_X1 (by decide) q534 rfl
theorem fg_X1_72_0 : FG RX1 72 0 8 := FG.of rfl in_X1 (by decide) q532 rfl
theorem fg_X1_68_0 : FG RX1 68 0 7 := FG.of rfl in_X1 (by decide) q531 rfl
theorem fp_X1_78_0 : FP RX1 78 0 10 (tyX1 10) false := ⟨_, _, _, _, tyX1, rfl, in_X1, by decide, Or.inl q534, Or.inl rfl, tyX1_ok, nmX1, rfl, (fun e => by cases e), rfl⟩
theorem fg_X1_95_0 : FG RX1 95 0 12 := FG.of rfl in_X1 (by decide) q536 rfl
theorem fg_X1_58_0 : FG RX1 58 0 5 := FG.of rfl in_X1 (by decide) q529 rfl
theorem fg_X1_148_9 : FG RX1 148 9 2 := FG.ofN rfl in_X14 (by decide) q703 rfl
theorem fg_X1_148_10 : FG RX1 148 10 2 := FG.ofN rfl in_X15 (by decide) q703 rfl
theorem fg_X1_166_0 : FG RX1 166 0 13 := FG.of rfl in_X1 (by decide) q537 rfl
theorem fg_X1_64_0 : FG RX1 64 0 6 := FG.of rfl in_X1 (by decide) q530 rfl
theorem fg_X1_205_8 : FG RX1 205 8 3 := FG.ofN rfl in_X16 (by decide) q1069 rfl
theorem fg_X1_52_0 : FG RX1 52 0 4 := FG.of rfl in_X1 (by decide) q528 rfl
theorem cv_X1_236_7 : CV RX1 236 7 MX9_many := ⟨_, _, _, rfl, wX9_many, q115, q1235, Or.inl ⟨q1234, q1236, by decide, by decide⟩⟩
theorem fg_X1_242_7 : FG RX1 242 7 2 := FG.ofN rfl in_X9 (by decide) q504 rfl
theorem fg_X1_215_7 : FG RX1 215 7 4 := FG.ofN rfl in_X9 (by decide) q508 rfl
theorem fg_X1_233_7 : FG RX1 233 7 3 := FG.ofN rfl in_X9 (by decide) q506 rfl
theorem fg_X1_230_0 : FG RX1 230 0 14 := FG.of rfl in_X1 (by decide) q538 rfl
theorem fp_X1_233_7 : FP RX1 233 7 3 (tyX9 3) false := ⟨_, _, _, _, tyX9, rfl, in_X9, by decide, Or.inr ⟨⟨_, q506⟩, rfl⟩, Or.inl rfl, tyX9_ok, nmX9, rfl, (fun e => by cases e), rfl⟩
theorem cv_X1_101_0 : CV RX1 101 0 MX1_use := ⟨_, _, _, rfl, wX1_use, q98, q601, Or.inl ⟨q599, qs2, by decide, by decide⟩⟩
theorem fg_X1_20_0 : FG RX1 20 0 0 := FG.of rfl in_X1 (by decide) q524 rfl
theorem cv_X1_121_1 : CV RX1 121 1 MX2_begin := ⟨_, _, _, rfl, wX2_begin, q99, q818, Or.inr ⟨⟨"VeilMint$Digest256", "begin", "()LVeilMint$Digest;"⟩, "VeilMint$Digest", q814, q815, Or.inr rfl, q817, rfl, by decide, by decide⟩⟩
theorem cv_X1_128_1 : CV RX1 128 1 MX2_put := ⟨_, _, _, rfl, wX2_put, q99, q850, Or.inl ⟨q849, q852, by decide, by decide⟩⟩
theorem cv_X1_128_2 : CV RX1 128 2 MX2_put := ⟨_, _, _, rfl, wX2_put, q99, q850, Or.inl ⟨q849, q853, by decide, by decide⟩⟩
theorem cv_X1_162_1 : CV RX1 162 1 MX2_end := ⟨_, _, _, rfl, wX2_end, q99, q889, Or.inl ⟨q905, q2133, by decide, by decide⟩⟩
theorem cv_X1_162_2 : CV RX1 162 2 MX2_end := ⟨_, _, _, rfl, wX2_end, q99, q889, Or.inl ⟨q905, q2134, by decide, by decide⟩⟩
theorem fg_X1_75_0 : FG RX1 75 0 9 := FG.of rfl in_X1 (by decide) q533 rfl
theorem cv_X1_152_0 : CV RX1 152 0 MX1_told := ⟨_, _, _, rfl, wX1_told, q98, q908, Or.inl ⟨q906, qs5, by decide, by decide⟩⟩
theorem fg_X1_239_7 : FG RX1 239 7 0 := FG.ofN rfl in_X9 (by decide) q501 rfl
theorem cv_X1_82_0 : CV RX1 82 0 MX1_four := ⟨_, _, _, rfl, wX1_four, q98, q576, Or.inl ⟨q574, qs1, by decide, by decide⟩⟩
theorem cv_X1_208_0 : CV RX1 208 0 MX1_mustBeOpen := ⟨_, _, _, rfl, wX1_mustBeOpen, q98, q1295, Or.inl ⟨q1293, qs30, by decide, by decide⟩⟩
theorem cv_X1_211_0 : CV RX1 211 0 MX1_finished := ⟨_, _, _, rfl, wX1_finished, q98, q1299, Or.inl ⟨q1297, qs31, by decide, by decide⟩⟩
theorem ci_X1_100 : CI RX1 100 MJ9_init := ⟨rfl, rfl, wJ9_init, q123, q1268, rfl, q1267, by decide, by decide⟩
theorem fg_X1_197_8 : FG RX1 197 8 0 := FG.ofN rfl in_X16 (by decide) q1061 rfl
theorem fg_X1_156_9 : FG RX1 156 9 1 := FG.of rfl in_X14 (by decide) q701 rfl
theorem fg_X1_156_10 : FG RX1 156 10 1 := FG.of rfl in_X15 (by decide) q701 rfl
theorem cv_X1_190_9 : CV RX1 190 9 MX14_answers := ⟨_, _, _, rfl, wX14_answers, q120, q1161, Or.inr ⟨⟨"VeilMint$Key", "answers", "(I)I"⟩, "VeilMint$Key", q1157, q1159, Or.inl q1158, q1160, rfl, by decide, by decide⟩⟩
theorem cv_X1_190_10 : CV RX1 190 10 MX15_answers := ⟨_, _, _, rfl, wX15_answers, q121, q1164, Or.inr ⟨⟨"VeilMint$Key", "answers", "(I)I"⟩, "VeilMint$Key", q1157, q1159, Or.inl q1158, q1163, rfl, by decide, by decide⟩⟩
theorem cv_X1_201_9 : CV RX1 201 9 MX14_finishes := ⟨_, _, _, rfl, wX14_finishes, q120, q1305, Or.inr ⟨⟨"VeilMint$Key", "finishes", "([LVeilMint$Asking;II[B[B)V"⟩, "VeilMint$Key", q1301, q1303, Or.inl q1302, q1304, rfl, by decide, by decide⟩⟩
theorem cv_X1_201_10 : CV RX1 201 10 MX15_finishes := ⟨_, _, _, rfl, wX15_finishes, q121, q1311, Or.inr ⟨⟨"VeilMint$Key", "finishes", "([LVeilMint$Asking;II[B[B)V"⟩, "VeilMint$Key", q1301, q1303, Or.inl q1302, q1310, rfl, by decide, by decide⟩⟩
theorem fg_X1_114_6 : FG RX1 114 6 6 := FG.ofN rfl in_X8 (by decide) q478 rfl
theorem fp_X1_205_8 : FP RX1 205 8 3 (tyX16 3) false := ⟨_, _, _, _, tyX16, rfl, in_X16, by decide, Or.inr ⟨⟨_, q1069⟩, rfl⟩, Or.inl rfl, tyX16_ok, nmX16, rfl, (fun e => by cases e), rfl⟩
theorem cv_X1_159_9 : CV RX1 159 9 MX14_proved := ⟨_, _, _, rfl, wX14_proved, q120, q1182, Or.inr ⟨⟨"VeilMint$Key", "proved", "()I"⟩, "VeilMint$Key", q1178, q1180, Or.inl q1179, q1181, rfl, by decide, by decide⟩⟩
theorem cv_X1_159_10 : CV RX1 159 10 MX15_proved := ⟨_, _, _, rfl, wX15_proved, q121, q1185, Or.inr ⟨⟨"VeilMint$Key", "proved", "()I"⟩, "VeilMint$Key", q1178, q1180, Or.inl q1179, q1184, rfl, by decide, by decide⟩⟩
theorem ci_X1_19 : CI RX1 19 MX3_init := ⟨rfl, rfl, wX3_init, q100, q136, rfl, q135, by decide, by decide⟩
theorem fp_X1_20_0 : FP RX1 20 0 0 (tyX1 0) true := ⟨_, _, _, _, tyX1, rfl, in_X1, by decide, Or.inl q524, Or.inl rfl, tyX1_ok, nmX1, rfl, (fun _ => rfl), rfl⟩
theorem ci_X1_28 : CI RX1 28 MX4_init := ⟨rfl, rfl, wX4_init, q101, q174, rfl, q173, by decide, by decide⟩
theorem fp_X1_29_0 : FP RX1 29 0 1 (tyX1 1) true := ⟨_, _, _, _, tyX1, rfl, in_X1, by decide, Or.inl q525, Or.inl rfl, tyX1_ok, nmX1, rfl, (fun _ => rfl), rfl⟩
theorem fg_X1_29_0 : FG RX1 29 0 1 := FG.of rfl in_X1 (by decide) q525 rfl
theorem ci_X1_35 : CI RX1 35 MX5_init := ⟨rfl, rfl, wX5_init, q102, q192, rfl, q191, by decide, by decide⟩
theorem fp_X1_38_0 : FP RX1 38 0 2 (tyX1 2) true := ⟨_, _, _, _, tyX1, rfl, in_X1, by decide, Or.inl q526, Or.inl rfl, tyX1_ok, nmX1, rfl, (fun _ => rfl), rfl⟩
theorem ci_X1_44 : CI RX1 44 MX8_init := ⟨rfl, rfl, wX8_init, q114, q466, rfl, q465, by decide, by decide⟩
theorem fp_X1_45_0 : FP RX1 45 0 3 (tyX1 3) true := ⟨_, _, _, _, tyX1, rfl, in_X1, by decide, Or.inl q527, Or.inl rfl, tyX1_ok, nmX1, rfl, (fun _ => rfl), rfl⟩
theorem cin_X1_51 : CIN RX1 51 MX9_init := ⟨rfl, rfl, wX9_init, q115, q497, rfl, ⟨_, q496⟩, by decide, by decide⟩
theorem fp_X1_52_0 : FP RX1 52 0 4 (tyX1 4) true := ⟨_, _, _, _, tyX1, rfl, in_X1, by decide, Or.inl q528, Or.inl rfl, tyX1_ok, nmX1, rfl, (fun _ => rfl), rfl⟩
theorem fp_X1_58_0 : FP RX1 58 0 5 (tyX1 5) true := ⟨_, _, _, _, tyX1, rfl, in_X1, by decide, Or.inl q529, Or.inl rfl, tyX1_ok, nmX1, rfl, (fun _ => rfl), rfl⟩
theorem fp_X1_64_0 : FP RX1 64 0 6 (tyX1 6) true := ⟨_, _, _, _, tyX1, rfl, in_X1, by decide, Or.inl q530, Or.inl rfl, tyX1_ok, nmX1, rfl, (fun _ => rfl), rfl⟩
theorem fp_X1_68_0 : FP RX1 68 0 7 (tyX1 7) true := ⟨_, _, _, _, tyX1, rfl, in_X1, by decide, Or.inl q531, Or.inl rfl, tyX1_ok, nmX1, rfl, (fun _ => rfl), rfl⟩
theorem fp_X1_72_0 : FP RX1 72 0 8 (tyX1 8) true := ⟨_, _, _, _, tyX1, rfl, in_X1, by decide, Or.inl q532, Or.inl rfl, tyX1_ok, nmX1, rfl, (fun _ => rfl), rfl⟩
theorem fp_X1_75_0 : FP RX1 75 0 9 (tyX1 9) true := ⟨_, _, _, _, tyX1, rfl, in_X1, by decide, Or.inl q533, Or.inl rfl, tyX1_ok, nmX1, rfl, (fun _ => rfl), rfl⟩
theorem fg_X1_141_9 : FG RX1 141 9 0 := FG.of rfl in_X14 (by decide) q699 rfl
theorem fg_X1_141_10 : FG RX1 141 10 0 := FG.of rfl in_X15 (by decide) q699 rfl
theorem cv_X1_193_0 : CV RX1 193 0 MX1_issued := ⟨_, _, _, rfl, wX1_issued, q98, q1094, Or.inl ⟨q1092, qs18, by decide, by decide⟩⟩
theorem cv_X1_179_0 : CV RX1 179 0 MX1_liveOf := ⟨_, _, _, rfl, wX1_liveOf, q98, q1098, Or.inl ⟨q1096, qs19, by decide, by decide⟩⟩
theorem cv_X1_176_9 : CV RX1 176 9 MX14_blinded := ⟨_, _, _, rfl, wX14_blinded, q120, q1083, Or.inr ⟨⟨"VeilMint$Key", "blinded", "()I"⟩, "VeilMint$Key", q1079, q1081, Or.inl q1080, q1082, rfl, by decide, by decide⟩⟩
theorem cv_X1_176_10 : CV RX1 176 10 MX15_blinded := ⟨_, _, _, rfl, wX15_blinded, q121, q1086, Or.inr ⟨⟨"VeilMint$Key", "blinded", "()I"⟩, "VeilMint$Key", q1079, q1081, Or.inl q1080, q1085, rfl, by decide, by decide⟩⟩
theorem cv_X1_183_9 : CV RX1 183 9 MX14_chance := ⟨_, _, _, rfl, wX14_chance, q120, q1104, Or.inr ⟨⟨"VeilMint$Key", "chance", "()I"⟩, "VeilMint$Key", q1100, q1102, Or.inl q1101, q1103, rfl, by decide, by decide⟩⟩
theorem cv_X1_183_10 : CV RX1 183 10 MX15_chance := ⟨_, _, _, rfl, wX15_chance, q121, q1107, Or.inr ⟨⟨"VeilMint$Key", "chance", "()I"⟩, "VeilMint$Key", q1100, q1102, Or.inl q1101, q1106, rfl, by decide, by decide⟩⟩
theorem cv_X1_186_9 : CV RX1 186 9 MX14_issues := ⟨_, _, _, rfl, wX14_issues, q120, q1113, Or.inr ⟨⟨"VeilMint$Key", "issues", "([BII[B)V"⟩, "VeilMint$Key", q1109, q1111, Or.inl q1110, q1112, rfl, by decide, by decide⟩⟩
theorem cv_X1_186_10 : CV RX1 186 10 MX15_issues := ⟨_, _, _, rfl, wX15_issues, q121, q1153, Or.inr ⟨⟨"VeilMint$Key", "issues", "([BII[B)V"⟩, "VeilMint$Key", q1109, q1111, Or.inl q1110, q1152, rfl, by decide, by decide⟩⟩
theorem fg_X1_38_0 : FG RX1 38 0 2 := FG.of rfl in_X1 (by decide) q526 rfl
theorem fg_X1_45_0 : FG RX1 45 0 3 := FG.of rfl in_X1 (by decide) q527 rfl
theorem ci_X1_106 : CI RX1 106 MX14_init := ⟨rfl, rfl, wX14_init, q120, q606, rfl, q605, by decide, by decide⟩
theorem ci_X1_111 : CI RX1 111 MX15_init := ⟨rfl, rfl, wX15_init, q121, q744, rfl, q743, by decide, by decide⟩
theorem cv_X1_117_9 : CV RX1 117 9 MX14_publish := ⟨_, _, _, rfl, wX14_publish, q120, q808, Or.inr ⟨⟨"VeilMint$Key", "publish", "([B)V"⟩, "VeilMint$Key", q804, q806, Or.inl q805, q807, rfl, by decide, by decide⟩⟩
theorem cv_X1_117_10 : CV RX1 117 10 MX15_publish := ⟨_, _, _, rfl, wX15_publish, q121, q812, Or.inr ⟨⟨"VeilMint$Key", "publish", "([B)V"⟩, "VeilMint$Key", q804, q806, Or.inl q805, q811, rfl, by decide, by decide⟩⟩
theorem cv_X1_125_9 : CV RX1 125 9 MX14_publics := ⟨_, _, _, rfl, wX14_publics, q120, q844, Or.inr ⟨⟨"VeilMint$Key", "publics", "()I"⟩, "VeilMint$Key", q840, q842, Or.inl q841, q843, rfl, by decide, by decide⟩⟩
theorem cv_X1_125_10 : CV RX1 125 10 MX15_publics := ⟨_, _, _, rfl, wX15_publics, q121, q847, Or.inr ⟨⟨"VeilMint$Key", "publics", "()I"⟩, "VeilMint$Key", q840, q842, Or.inl q841, q846, rfl, by decide, by decide⟩⟩
theorem cv_X1_134_1 : CV RX1 134 1 MX2_put_2 := ⟨_, _, _, rfl, wX2_put_2, q99, q856, Or.inr ⟨⟨"VeilMint$Digest256", "put", "(I)LVeilMint$Digest;"⟩, "VeilMint$Digest", q881, q882, Or.inr rfl, q884, rfl, by decide, by decide⟩⟩
theorem cv_X1_137_1 : CV RX1 137 1 MX2_end := ⟨_, _, _, rfl, wX2_end, q99, q889, Or.inr ⟨⟨"VeilMint$Digest256", "end", "()[B"⟩, "VeilMint$Digest", q885, q886, Or.inr rfl, q888, rfl, by decide, by decide⟩⟩
theorem fp_X1_95_0 : FP RX1 95 0 12 (tyX1 12) false := ⟨_, _, _, _, tyX1, rfl, in_X1, by decide, Or.inl q536, Or.inl rfl, tyX1_ok, nmX1, rfl, (fun e => by cases e), rfl⟩
theorem cv_X1_144_0 : CV RX1 144 0 MX1_keyAt := ⟨_, _, _, rfl, wX1_keyAt, q98, q1256, Or.inl ⟨q1254, qs29, by decide, by decide⟩⟩
theorem fp_X1_215_7 : FP RX1 215 7 4 (tyX9 4) false := ⟨_, _, _, _, tyX9, rfl, in_X9, by decide, Or.inr ⟨⟨_, q508⟩, rfl⟩, Or.inl rfl, tyX9_ok, nmX9, rfl, (fun e => by cases e), rfl⟩
theorem cv_X1_218_0 : CV RX1 218 0 MX1_isId := ⟨_, _, _, rfl, wX1_isId, q98, q1176, Or.inl ⟨q1174, qs23, by decide, by decide⟩⟩
theorem cv_X1_222_9 : CV RX1 222 9 MX14_isRight := ⟨_, _, _, rfl, wX14_isRight, q120, q1191, Or.inr ⟨⟨"VeilMint$Key", "isRight", "([BI[BI)Z"⟩, "VeilMint$Key", q1187, q1189, Or.inl q1188, q1190, rfl, by decide, by decide⟩⟩
theorem cv_X1_222_10 : CV RX1 222 10 MX15_isRight := ⟨_, _, _, rfl, wX15_isRight, q121, q1199, Or.inr ⟨⟨"VeilMint$Key", "isRight", "([BI[BI)Z"⟩, "VeilMint$Key", q1187, q1189, Or.inl q1188, q1198, rfl, by decide, by decide⟩⟩
theorem cv_X1_226_7 : CV RX1 226 7 MX9_spend := ⟨_, _, _, rfl, wX9_spend, q115, q1206, Or.inl ⟨q1205, q1207, by decide, by decide⟩⟩
theorem fp_X1_230_0 : FP RX1 230 0 14 (tyX1 14) false := ⟨_, _, _, _, tyX1, rfl, in_X1, by decide, Or.inl q538, Or.inl rfl, tyX1_ok, nmX1, rfl, (fun e => by cases e), rfl⟩
theorem cv_X1_163_9 : CV RX1 163 9 MX14_blind := ⟨_, _, _, rfl, wX14_blind, q120, q918, Or.inr ⟨⟨"VeilMint$Key", "blind", "()I"⟩, "VeilMint$Key", q914, q916, Or.inl q915, q917, rfl, by decide, by decide⟩⟩
theorem cv_X1_163_10 : CV RX1 163 10 MX15_blind := ⟨_, _, _, rfl, wX15_blind, q121, q921, Or.inr ⟨⟨"VeilMint$Key", "blind", "()I"⟩, "VeilMint$Key", q914, q916, Or.inl q915, q920, rfl, by decide, by decide⟩⟩
theorem cv_X1_169_9 : CV RX1 169 9 MX14_blinds := ⟨_, _, _, rfl, wX14_blinds, q120, q928, Or.inr ⟨⟨"VeilMint$Key", "blinds", "([B[BI[BI)[I"⟩, "VeilMint$Key", q924, q926, Or.inl q925, q927, rfl, by decide, by decide⟩⟩
theorem cv_X1_169_10 : CV RX1 169 10 MX15_blinds := ⟨_, _, _, rfl, wX15_blinds, q121, q1024, Or.inr ⟨⟨"VeilMint$Key", "blinds", "([B[BI[BI)[I"⟩, "VeilMint$Key", q924, q926, Or.inl q925, q1023, rfl, by decide, by decide⟩⟩
theorem ci_X1_173 : CI RX1 173 MX16_init := ⟨rfl, rfl, wX16_init, q124, q1057, rfl, q1056, by decide, by decide⟩
theorem fp_X1_166_0 : FP RX1 166 0 13 (tyX1 13) false := ⟨_, _, _, _, tyX1, rfl, in_X1, by decide, Or.inl q537, Or.inl rfl, tyX1_ok, nmX1, rfl, (fun e => by cases e), rfl⟩
theorem fp_X1_148_9 : FP RX1 148 9 2 (tyX14 2) false := ⟨_, _, _, _, tyX14, rfl, in_X14, by decide, Or.inr ⟨⟨_, q703⟩, rfl⟩, Or.inl rfl, tyX14_ok, nmX14, rfl, (fun e => by cases e), rfl⟩
theorem fp_X1_148_10 : FP RX1 148 10 2 (tyX15 2) false := ⟨_, _, _, _, tyX15, rfl, in_X15, by decide, Or.inr ⟨⟨_, q703⟩, rfl⟩, Or.inl rfl, tyX15_ok, nmX15, rfl, (fun e => by cases e), rfl⟩
theorem fp_X1_86_0 : FP RX1 86 0 11 (tyX1 11) false := ⟨_, _, _, _, tyX1, rfl, in_X1, by decide, Or.inl q535, Or.inl rfl, tyX1_ok, nmX1, rfl, (fun e => by cases e), rfl⟩
theorem fp_X2_16_1 : FP RX2 16 1 2 (tyX3 2) false := ⟨_, _, _, _, tyX3, rfl, in_X3, by decide, Or.inl q154, Or.inl rfl, tyX3_ok, nmX3, rfl, (fun e => by cases e), rfl⟩
theorem fp_X2_16_2 : FP RX2 16 2 2 (tyX4 2) false := ⟨_, _, _, _, tyX4, rfl, in_X4, by decide, Or.inl q154, Or.inl rfl, tyX4_ok, nmX4, rfl, (fun e => by cases e), rfl⟩
theorem fp_X2_20_1 : FP RX2 20 1 3 (tyX3 3) false := ⟨_, _, _, _, tyX3, rfl, in_X3, by decide, Or.inl q155, Or.inl rfl, tyX3_ok, nmX3, rfl, (fun e => by cases e), rfl⟩
theorem fp_X2_20_2 : FP RX2 20 2 3 (tyX4 3) false := ⟨_, _, _, _, tyX4, rfl, in_X4, by decide, Or.inl q155, Or.inl rfl, tyX4_ok, nmX4, rfl, (fun e => by cases e), rfl⟩
theorem cv_X2_24_1 : CV RX2 24 1 MX3_start := ⟨_, _, _, rfl, wX3_start, q100, q824, Or.inr ⟨⟨"VeilMint$Digest", "start", "()V"⟩, "VeilMint$Digest", q820, q822, Or.inl q821, q823, rfl, by decide, by decide⟩⟩
theorem cv_X2_24_2 : CV RX2 24 2 MX4_start := ⟨_, _, _, rfl, wX4_start, q101, q835, Or.inr ⟨⟨"VeilMint$Digest", "start", "()V"⟩, "VeilMint$Digest", q820, q822, Or.inl q821, q834, rfl, by decide, by decide⟩⟩
theorem fg_X2_16_1 : FG RX2 16 1 2 := FG.of rfl in_X3 (by decide) q154 rfl
theorem fg_X2_16_2 : FG RX2 16 2 2 := FG.of rfl in_X4 (by decide) q154 rfl
theorem fg_X2_7_1 : FG RX2 7 1 0 := FG.of rfl in_X3 (by decide) q144 rfl
theorem fg_X2_7_2 : FG RX2 7 2 0 := FG.of rfl in_X4 (by decide) q144 rfl
theorem cv_X2_30_1 : CV RX2 30 1 MX2_put_2 := ⟨_, _, _, rfl, wX2_put_2, q99, q856, Or.inl ⟨q855, q858, by decide, by decide⟩⟩
theorem cv_X2_30_2 : CV RX2 30 2 MX2_put_2 := ⟨_, _, _, rfl, wX2_put_2, q99, q856, Or.inl ⟨q855, q859, by decide, by decide⟩⟩
theorem fg_X2_20_1 : FG RX2 20 1 3 := FG.of rfl in_X3 (by decide) q155 rfl
theorem fg_X2_20_2 : FG RX2 20 2 3 := FG.of rfl in_X4 (by decide) q155 rfl
theorem cv_X2_46_1 : CV RX2 46 1 MX3_tell := ⟨_, _, _, rfl, wX3_tell, q100, q896, Or.inr ⟨⟨"VeilMint$Digest", "tell", "()V"⟩, "VeilMint$Digest", q892, q894, Or.inl q893, q895, rfl, by decide, by decide⟩⟩
theorem cv_X2_46_2 : CV RX2 46 2 MX4_tell := ⟨_, _, _, rfl, wX4_tell, q101, q899, Or.inr ⟨⟨"VeilMint$Digest", "tell", "()V"⟩, "VeilMint$Digest", q892, q894, Or.inl q893, q898, rfl, by decide, by decide⟩⟩
theorem fg_X2_13_1 : FG RX2 13 1 1 := FG.of rfl in_X3 (by decide) q149 rfl
theorem fg_X2_13_2 : FG RX2 13 2 1 := FG.of rfl in_X4 (by decide) q149 rfl
theorem fp_X2_7_1 : FP RX2 7 1 0 (tyX3 0) true := ⟨_, _, _, _, tyX3, rfl, in_X3, by decide, Or.inl q144, Or.inl rfl, tyX3_ok, nmX3, rfl, (fun _ => rfl), rfl⟩
theorem fp_X2_7_2 : FP RX2 7 2 0 (tyX4 0) true := ⟨_, _, _, _, tyX4, rfl, in_X4, by decide, Or.inl q144, Or.inl rfl, tyX4_ok, nmX4, rfl, (fun _ => rfl), rfl⟩
theorem fp_X2_13_1 : FP RX2 13 1 1 (tyX3 1) true := ⟨_, _, _, _, tyX3, rfl, in_X3, by decide, Or.inl q149, Or.inl rfl, tyX3_ok, nmX3, rfl, (fun _ => rfl), rfl⟩
theorem fp_X2_13_2 : FP RX2 13 2 1 (tyX4 1) true := ⟨_, _, _, _, tyX4, rfl, in_X4, by decide, Or.inl q149, Or.inl rfl, tyX4_ok, nmX4, rfl, (fun _ => rfl), rfl⟩
theorem cv_X2_27_1 : CV RX2 27 1 MX3_mix := ⟨_, _, _, rfl, wX3_mix, q100, q865, Or.inr ⟨⟨"VeilMint$Digest", "mix", "()V"⟩, "VeilMint$Digest", q861, q863, Or.inl q862, q864, rfl, by decide, by decide⟩⟩
theorem cv_X2_27_2 : CV RX2 27 2 MX4_mix := ⟨_, _, _, rfl, wX4_mix, q101, q873, Or.inr ⟨⟨"VeilMint$Digest", "mix", "()V"⟩, "VeilMint$Digest", q861, q863, Or.inl q862, q872, rfl, by decide, by decide⟩⟩
theorem ci_X3_1 : CI RX3 1 MX2_init := ⟨rfl, rfl, wX2_init, q99, q139, rfl, q138, by decide, by decide⟩
theorem fp_X3_7_1 : FP RX3 7 1 4 (tyX3 4) true := ⟨_, _, _, _, tyX3, rfl, in_X3, by decide, Or.inl q142, Or.inl rfl, tyX3_ok, nmX3, rfl, (fun _ => rfl), rfl⟩
theorem fp_X3_13_1 : FP RX3 13 1 5 (tyX3 5) true := ⟨_, _, _, _, tyX3, rfl, in_X3, by decide, Or.inl q143, Or.inl rfl, tyX3_ok, nmX3, rfl, (fun _ => rfl), rfl⟩
theorem fg_X3_13_1 : FG RX3 13 1 5 := FG.of rfl in_X3 (by decide) q143 rfl
theorem fg_X3_24_1 : FG RX3 24 1 0 := FG.ofS rfl in_X3 (by decide) q145 q146
theorem fg_X3_24_2 : FG RX3 24 2 0 := FG.ofS rfl in_X4 (by decide) q145 q146
theorem cs_X3_28 : CS RX3 28 MJ4_rotateRight := ⟨wJ4_rotateRight, q109, q868, q867, by decide, by decide⟩
theorem fg_X3_7_1 : FG RX3 7 1 4 := FG.of rfl in_X3 (by decide) q142 rfl
theorem fg_X3_37_1 : FG RX3 37 1 1 := FG.ofS rfl in_X3 (by decide) q150 q151
theorem fg_X3_37_2 : FG RX3 37 2 1 := FG.ofS rfl in_X4 (by decide) q150 q151
theorem ci_X4_1 : CI RX4 1 MX2_init := ⟨rfl, rfl, wX2_init, q99, q139, rfl, q176, by decide, by decide⟩
theorem fp_X4_7_2 : FP RX4 7 2 4 (tyX4 4) true := ⟨_, _, _, _, tyX4, rfl, in_X4, by decide, Or.inl q177, Or.inl rfl, tyX4_ok, nmX4, rfl, (fun _ => rfl), rfl⟩
theorem fp_X4_13_2 : FP RX4 13 2 5 (tyX4 5) true := ⟨_, _, _, _, tyX4, rfl, in_X4, by decide, Or.inl q178, Or.inl rfl, tyX4_ok, nmX4, rfl, (fun _ => rfl), rfl⟩
theorem fg_X4_25_1 : FG RX4 25 1 0 := FG.ofS rfl in_X3 (by decide) q147 q148
theorem fg_X4_25_2 : FG RX4 25 2 0 := FG.ofS rfl in_X4 (by decide) q147 q148
theorem fg_X4_13_2 : FG RX4 13 2 5 := FG.of rfl in_X4 (by decide) q178 rfl
theorem cs_X4_29 : CS RX4 29 MJ8_rotateRight := ⟨wJ8_rotateRight, q122, q876, q875, by decide, by decide⟩
theorem fg_X4_7_2 : FG RX4 7 2 4 := FG.of rfl in_X4 (by decide) q177 rfl
theorem fg_X4_40_1 : FG RX4 40 1 1 := FG.ofS rfl in_X3 (by decide) q152 q153
theorem fg_X4_40_2 : FG RX4 40 2 1 := FG.ofS rfl in_X4 (by decide) q152 q153
theorem cv_X5_136_5 : CV RX5 136 5 MX7_isNone := ⟨_, _, _, rfl, wX7_isNone, q110, q651, Or.inl ⟨q650, q652, by decide, by decide⟩⟩
theorem cv_X5_143_5 : CV RX5 143 5 MX7_be := ⟨_, _, _, rfl, wX7_be, q110, q638, Or.inl ⟨q637, q639, by decide, by decide⟩⟩
theorem fg_X5_22_3 : FG RX5 22 3 0 := FG.of rfl in_X5 (by decide) q358 rfl
theorem fg_X5_114_5 : FG RX5 114 5 2 := FG.ofN rfl in_X7 (by decide) q329 rfl
theorem fg_X5_44_3 : FG RX5 44 3 6 := FG.of rfl in_X5 (by decide) q365 rfl
theorem cv_X5_140_4 : CV RX5 140 4 MX6_mul := ⟨_, _, _, rfl, wX6_mul, q103, q343, Or.inl ⟨q655, q344, by decide, by decide⟩⟩
theorem fg_X5_47_3 : FG RX5 47 3 7 := FG.of rfl in_X5 (by decide) q366 rfl
theorem fg_X5_103_5 : FG RX5 103 5 0 := FG.ofN rfl in_X7 (by decide) q325 rfl
theorem fg_X5_50_3 : FG RX5 50 3 8 := FG.of rfl in_X5 (by decide) q367 rfl
theorem fg_X5_53_3 : FG RX5 53 3 9 := FG.of rfl in_X5 (by decide) q368 rfl
theorem fg_X5_108_5 : FG RX5 108 5 1 := FG.ofN rfl in_X7 (by decide) q327 rfl
theorem fg_X5_56_3 : FG RX5 56 3 10 := FG.of rfl in_X5 (by decide) q369 rfl
theorem fg_X5_59_3 : FG RX5 59 3 11 := FG.of rfl in_X5 (by decide) q370 rfl
theorem cv_X5_133_4 : CV RX5 133 4 MX6_sub := ⟨_, _, _, rfl, wX6_sub, q103, q355, Or.inl ⟨q354, q356, by decide, by decide⟩⟩
theorem cs_X5_147 : CS RX5 147 MX6_isZero := ⟨wX6_isZero, q103, q627, q660, by decide, by decide⟩
theorem cv_X5_151_3 : CV RX5 151 3 MX5_twice := ⟨_, _, _, rfl, wX5_twice, q102, q647, Or.inl ⟨q646, q648, by decide, by decide⟩⟩
theorem cv_X5_154_5 : CV RX5 154 5 MX7_vanish := ⟨_, _, _, rfl, wX7_vanish, q110, q643, Or.inl ⟨q642, q644, by decide, by decide⟩⟩
theorem fg_X5_62_3 : FG RX5 62 3 12 := FG.of rfl in_X5 (by decide) q371 rfl
theorem fg_X5_65_3 : FG RX5 65 3 13 := FG.of rfl in_X5 (by decide) q372 rfl
theorem fg_X5_91_3 : FG RX5 91 3 17 := FG.of rfl in_X5 (by decide) q377 rfl
theorem cv_X5_228_2 : CV RX5 228 2 MX2_begin := ⟨_, _, _, rfl, wX2_begin, q99, q818, Or.inr ⟨⟨"VeilMint$Digest384", "begin", "()LVeilMint$Digest;"⟩, "VeilMint$Digest", q938, q939, Or.inr rfl, q940, rfl, by decide, by decide⟩⟩
theorem cv_X5_232_2 : CV RX5 232 2 MX2_put_2 := ⟨_, _, _, rfl, wX2_put_2, q99, q856, Or.inr ⟨⟨"VeilMint$Digest384", "put", "(I)LVeilMint$Digest;"⟩, "VeilMint$Digest", q941, q942, Or.inr rfl, q943, rfl, by decide, by decide⟩⟩
theorem cv_X5_211_2 : CV RX5 211 2 MX2_two := ⟨_, _, _, rfl, wX2_two, q99, q959, Or.inr ⟨⟨"VeilMint$Digest384", "two", "(I)LVeilMint$Digest;"⟩, "VeilMint$Digest", q955, q956, Or.inr rfl, q958, rfl, by decide, by decide⟩⟩
theorem cv_X5_199_1 : CV RX5 199 1 MX2_put_2 := ⟨_, _, _, rfl, wX2_put_2, q99, q856, Or.inl ⟨q961, q858, by decide, by decide⟩⟩
theorem cv_X5_199_2 : CV RX5 199 2 MX2_put_2 := ⟨_, _, _, rfl, wX2_put_2, q99, q856, Or.inl ⟨q961, q859, by decide, by decide⟩⟩
theorem cv_X5_214_3 : CV RX5 214 3 MX5_tag := ⟨_, _, _, rfl, wX5_tag, q102, q964, Or.inl ⟨q962, qs7, by decide, by decide⟩⟩
theorem cv_X5_218_2 : CV RX5 218 2 MX2_end := ⟨_, _, _, rfl, wX2_end, q99, q889, Or.inr ⟨⟨"VeilMint$Digest384", "end", "()[B"⟩, "VeilMint$Digest", q977, q978, Or.inr rfl, q979, rfl, by decide, by decide⟩⟩
theorem fg_X5_88_3 : FG RX5 88 3 20 := FG.of rfl in_X5 (by decide) q381 rfl
theorem fg_X5_85_3 : FG RX5 85 3 19 := FG.of rfl in_X5 (by decide) q380 rfl
theorem fg_X5_81_3 : FG RX5 81 3 18 := FG.of rfl in_X5 (by decide) q379 rfl
theorem fg_X5_38_3 : FG RX5 38 3 4 := FG.of rfl in_X5 (by decide) q363 rfl
theorem fg_X5_41_3 : FG RX5 41 3 5 := FG.of rfl in_X5 (by decide) q364 rfl
theorem cv_X5_252_3 : CV RX5 252 3 MX5_negateInto := ⟨_, _, _, rfl, wX5_negateInto, q102, q995, Or.inl ⟨q993, qs10, by decide, by decide⟩⟩
theorem cv_X5_160_4 : CV RX5 160 4 MX6_from := ⟨_, _, _, rfl, wX6_from, q103, q666, Or.inl ⟨q665, q667, by decide, by decide⟩⟩
theorem cv_X5_163_4 : CV RX5 163 4 MX6_inverse := ⟨_, _, _, rfl, wX6_inverse, q103, q670, Or.inl ⟨q669, q671, by decide, by decide⟩⟩
theorem cv_X5_97_4 : CV RX5 97 4 MX6_in := ⟨_, _, _, rfl, wX6_in, q103, q339, Or.inl ⟨q338, q340, by decide, by decide⟩⟩
theorem fg_X5_31_3 : FG RX5 31 3 2 := FG.of rfl in_X5 (by decide) q361 rfl
theorem fg_X5_111_4 : FG RX5 111 4 2 := FG.ofN rfl in_X6 (by decide) q285 rfl
theorem cv_X5_129_4 : CV RX5 129 4 MX6_add := ⟨_, _, _, rfl, wX6_add, q103, q260, Or.inl ⟨q353, q261, by decide, by decide⟩⟩
theorem cv_X5_235_3 : CV RX5 235 3 MX5_expand := ⟨_, _, _, rfl, wX5_expand, q102, q951, Or.inl ⟨q950, q952, by decide, by decide⟩⟩
theorem cv_X5_245_3 : CV RX5 245 3 MX5_map := ⟨_, _, _, rfl, wX5_map, q102, q983, Or.inl ⟨q981, qs8, by decide, by decide⟩⟩
theorem fg_X5_78_3 : FG RX5 78 3 16 := FG.of rfl in_X5 (by decide) q376 rfl
theorem cv_X5_157_3 : CV RX5 157 3 MX5_add := ⟨_, _, _, rfl, wX5_add, q102, q657, Or.inl ⟨q656, q658, by decide, by decide⟩⟩
theorem csn_X5_15 : CSN RX5 15 MX1_limbs := ⟨rfl, wX1_limbs, q98, q199, ⟨_, q198⟩, by decide, by decide⟩
theorem ci_X5_19 : CI RX5 19 MX6_init := ⟨rfl, rfl, wX6_init, q103, q250, rfl, q249, by decide, by decide⟩
theorem fp_X5_22_3 : FP RX5 22 3 0 (tyX5 0) true := ⟨_, _, _, _, tyX5, rfl, in_X5, by decide, Or.inl q358, Or.inl rfl, tyX5_ok, nmX5, rfl, (fun _ => rfl), rfl⟩
theorem fp_X5_28_3 : FP RX5 28 3 1 (tyX5 1) true := ⟨_, _, _, _, tyX5, rfl, in_X5, by decide, Or.inl q359, Or.inl rfl, tyX5_ok, nmX5, rfl, (fun _ => rfl), rfl⟩
theorem fp_X5_31_3 : FP RX5 31 3 2 (tyX5 2) true := ⟨_, _, _, _, tyX5, rfl, in_X5, by decide, Or.inl q361, Or.inl rfl, tyX5_ok, nmX5, rfl, (fun _ => rfl), rfl⟩
theorem fp_X5_35_3 : FP RX5 35 3 3 (tyX5 3) true := ⟨_, _, _, _, tyX5, rfl, in_X5, by decide, Or.inl q362, Or.inl rfl, tyX5_ok, nmX5, rfl, (fun _ => rfl), rfl⟩
theorem fp_X5_38_3 : FP RX5 38 3 4 (tyX5 4) true := ⟨_, _, _, _, tyX5, rfl, in_X5, by decide, Or.inl q363, Or.inl rfl, tyX5_ok, nmX5, rfl, (fun _ => rfl), rfl⟩
theorem fp_X5_41_3 : FP RX5 41 3 5 (tyX5 5) true := ⟨_, _, _, _, tyX5, rfl, in_X5, by decide, Or.inl q364, Or.inl rfl, tyX5_ok, nmX5, rfl, (fun _ => rfl), rfl⟩
theorem fp_X5_44_3 : FP RX5 44 3 6 (tyX5 6) true := ⟨_, _, _, _, tyX5, rfl, in_X5, by decide, Or.inl q365, Or.inl rfl, tyX5_ok, nmX5, rfl, (fun _ => rfl), rfl⟩
theorem fp_X5_47_3 : FP RX5 47 3 7 (tyX5 7) true := ⟨_, _, _, _, tyX5, rfl, in_X5, by decide, Or.inl q366, Or.inl rfl, tyX5_ok, nmX5, rfl, (fun _ => rfl), rfl⟩
theorem fp_X5_50_3 : FP RX5 50 3 8 (tyX5 8) true := ⟨_, _, _, _, tyX5, rfl, in_X5, by decide, Or.inl q367, Or.inl rfl, tyX5_ok, nmX5, rfl, (fun _ => rfl), rfl⟩
theorem fp_X5_53_3 : FP RX5 53 3 9 (tyX5 9) true := ⟨_, _, _, _, tyX5, rfl, in_X5, by decide, Or.inl q368, Or.inl rfl, tyX5_ok, nmX5, rfl, (fun _ => rfl), rfl⟩
theorem fp_X5_56_3 : FP RX5 56 3 10 (tyX5 10) true := ⟨_, _, _, _, tyX5, rfl, in_X5, by decide, Or.inl q369, Or.inl rfl, tyX5_ok, nmX5, rfl, (fun _ => rfl), rfl⟩
theorem fp_X5_59_3 : FP RX5 59 3 11 (tyX5 11) true := ⟨_, _, _, _, tyX5, rfl, in_X5, by decide, Or.inl q370, Or.inl rfl, tyX5_ok, nmX5, rfl, (fun _ => rfl), rfl⟩
theorem fp_X5_62_3 : FP RX5 62 3 12 (tyX5 12) true := ⟨_, _, _, _, tyX5, rfl, in_X5, by decide, Or.inl q371, Or.inl rfl, tyX5_ok, nmX5, rfl, (fun _ => rfl), rfl⟩
theorem fp_X5_65_3 : FP RX5 65 3 13 (tyX5 13) true := ⟨_, _, _, _, tyX5, rfl, in_X5, by decide, Or.inl q372, Or.inl rfl, tyX5_ok, nmX5, rfl, (fun _ => rfl), rfl⟩
theorem cin_X5_70 : CIN RX5 70 MX7_init := ⟨rfl, rfl, wX7_init, q110, q321, rfl, ⟨_, q320⟩, by decide, by decide⟩
theorem fp_X5_71_3 : FP RX5 71 3 14 (tyX5 14) true := ⟨_, _, _, _, tyX5, rfl, in_X5, by decide, Or.inl q373, Or.inl rfl, tyX5_ok, nmX5, rfl, (fun _ => rfl), rfl⟩
theorem fp_X5_75_3 : FP RX5 75 3 15 (tyX5 15) true := ⟨_, _, _, _, tyX5, rfl, in_X5, by decide, Or.inl q375, Or.inl rfl, tyX5_ok, nmX5, rfl, (fun _ => rfl), rfl⟩
theorem fp_X5_78_3 : FP RX5 78 3 16 (tyX5 16) true := ⟨_, _, _, _, tyX5, rfl, in_X5, by decide, Or.inl q376, Or.inl rfl, tyX5_ok, nmX5, rfl, (fun _ => rfl), rfl⟩
theorem fp_X5_81_3 : FP RX5 81 3 18 (tyX5 18) true := ⟨_, _, _, _, tyX5, rfl, in_X5, by decide, Or.inl q379, Or.inl rfl, tyX5_ok, nmX5, rfl, (fun _ => rfl), rfl⟩
theorem fp_X5_85_3 : FP RX5 85 3 19 (tyX5 19) true := ⟨_, _, _, _, tyX5, rfl, in_X5, by decide, Or.inl q380, Or.inl rfl, tyX5_ok, nmX5, rfl, (fun _ => rfl), rfl⟩
theorem fp_X5_88_3 : FP RX5 88 3 20 (tyX5 20) true := ⟨_, _, _, _, tyX5, rfl, in_X5, by decide, Or.inl q381, Or.inl rfl, tyX5_ok, nmX5, rfl, (fun _ => rfl), rfl⟩
theorem fp_X5_91_3 : FP RX5 91 3 17 (tyX5 17) true := ⟨_, _, _, _, tyX5, rfl, in_X5, by decide, Or.inl q377, Or.inl rfl, tyX5_ok, nmX5, rfl, (fun _ => rfl), rfl⟩
theorem fg_X5_71_3 : FG RX5 71 3 14 := FG.of rfl in_X5 (by decide) q373 rfl
theorem cs_X5_117 : CS RX5 117 MX6_copy := ⟨wX6_copy, q103, q254, q348, by decide, by decide⟩
theorem fg_X5_120_4 : FG RX5 120 4 1 := FG.ofN rfl in_X6 (by decide) q283 rfl
theorem fg_X5_35_3 : FG RX5 35 3 3 := FG.of rfl in_X5 (by decide) q362 rfl
theorem csn_X5_125 : CSN RX5 125 MX6_shift := ⟨rfl, wX6_shift, q103, q351, ⟨_, q350⟩, by decide, by decide⟩
theorem cv_X5_239_4 : CV RX5 239 4 MX6_rest := ⟨_, _, _, rfl, wX6_rest, q103, q986, Or.inl ⟨q985, q987, by decide, by decide⟩⟩
theorem cv_X5_249_3 : CV RX5 249 3 MX5_firstX := ⟨_, _, _, rfl, wX5_firstX, q102, q991, Or.inl ⟨q989, qs9, by decide, by decide⟩⟩
theorem cv_X5_175_3 : CV RX5 175 3 MX5_square := ⟨_, _, _, rfl, wX5_square, q102, q999, Or.inl ⟨q997, qs11, by decide, by decide⟩⟩
theorem cv_X5_178_4 : CV RX5 178 4 MX6_pow := ⟨_, _, _, rfl, wX6_pow, q103, q1002, Or.inl ⟨q1001, q1003, by decide, by decide⟩⟩
theorem cs_X5_181 : CS RX5 181 MX6_compare := ⟨wX6_compare, q103, q268, q1012, by decide, by decide⟩
theorem cv_X5_185_3 : CV RX5 185 3 MX5_negate := ⟨_, _, _, rfl, wX5_negate, q102, q1015, Or.inl ⟨q1013, qs12, by decide, by decide⟩⟩
theorem cv_X5_171_4 : CV RX5 171 4 MX6_read := ⟨_, _, _, rfl, wX6_read, q103, q619, Or.inl ⟨q1123, q620, by decide, by decide⟩⟩
theorem fg_X5_28_3 : FG RX5 28 3 1 := FG.of rfl in_X5 (by decide) q359 rfl
theorem cv_X5_188_2 : CV RX5 188 2 MX2_word := ⟨_, _, _, rfl, wX2_word, q99, q970, Or.inr ⟨⟨"VeilMint$Digest384", "word", "(Ljava/lang/String;)LVeilMint$Digest;"⟩, "VeilMint$Digest", q966, q967, Or.inr rfl, q969, rfl, by decide, by decide⟩⟩
theorem cv_X5_196_1 : CV RX5 196 1 MX2_word := ⟨_, _, _, rfl, wX2_word, q99, q970, Or.inl ⟨q975, q2136, by decide, by decide⟩⟩
theorem cv_X5_196_2 : CV RX5 196 2 MX2_word := ⟨_, _, _, rfl, wX2_word, q99, q970, Or.inl ⟨q975, q2137, by decide, by decide⟩⟩
theorem fg_X5_75_3 : FG RX5 75 3 15 := FG.of rfl in_X5 (by decide) q375 rfl
theorem cs_X5_167 : CS RX5 167 MX6_write := ⟨wX6_write, q103, q681, q680, by decide, by decide⟩
theorem cs_X6_70 : CS RX6 70 MX6_plus := ⟨wX6_plus, q103, q264, q263, by decide, by decide⟩
theorem fg_X6_13_4 : FG RX6 13 4 1 := FG.of rfl in_X6 (by decide) q282 rfl
theorem cs_X6_64 : CS RX6 64 MX6_compare := ⟨wX6_compare, q103, q268, q267, by decide, by decide⟩
theorem cs_X6_74 : CS RX6 74 MX6_minus := ⟨wX6_minus, q103, q278, q277, by decide, by decide⟩
theorem cs_X6_58 : CS RX6 58 MJ4_compareUnsigned := ⟨wJ4_compareUnsigned, q109, q271, q270, by decide, by decide⟩
theorem fg_X6_23_4 : FG RX6 23 4 4 := FG.of rfl in_X6 (by decide) q287 rfl
theorem cv_X6_77_4 : CV RX6 77 4 MX6_mul := ⟨_, _, _, rfl, wX6_mul, q103, q343, Or.inl ⟨q342, q344, by decide, by decide⟩⟩
theorem cs_X6_85 : CS RX6 85 MX6_shift := ⟨wX6_shift, q103, q351, q674, by decide, by decide⟩
theorem fg_X6_20_4 : FG RX6 20 4 3 := FG.of rfl in_X6 (by decide) q286 rfl
theorem fp_X6_7_4 : FP RX6 7 4 0 (tyX6 0) true := ⟨_, _, _, _, tyX6, rfl, in_X6, by decide, Or.inl q280, Or.inl rfl, tyX6_ok, nmX6, rfl, (fun _ => rfl), rfl⟩
theorem fp_X6_13_4 : FP RX6 13 4 1 (tyX6 1) true := ⟨_, _, _, _, tyX6, rfl, in_X6, by decide, Or.inl q282, Or.inl rfl, tyX6_ok, nmX6, rfl, (fun _ => rfl), rfl⟩
theorem fg_X6_7_4 : FG RX6 7 4 0 := FG.of rfl in_X6 (by decide) q280 rfl
theorem fp_X6_17_4 : FP RX6 17 4 2 (tyX6 2) true := ⟨_, _, _, _, tyX6, rfl, in_X6, by decide, Or.inl q284, Or.inl rfl, tyX6_ok, nmX6, rfl, (fun _ => rfl), rfl⟩
theorem fp_X6_20_4 : FP RX6 20 4 3 (tyX6 3) true := ⟨_, _, _, _, tyX6, rfl, in_X6, by decide, Or.inl q286, Or.inl rfl, tyX6_ok, nmX6, rfl, (fun _ => rfl), rfl⟩
theorem fp_X6_23_4 : FP RX6 23 4 4 (tyX6 4) true := ⟨_, _, _, _, tyX6, rfl, in_X6, by decide, Or.inl q287, Or.inl rfl, tyX6_ok, nmX6, rfl, (fun _ => rfl), rfl⟩
theorem fp_X6_26_4 : FP RX6 26 4 5 (tyX6 5) true := ⟨_, _, _, _, tyX6, rfl, in_X6, by decide, Or.inl q288, Or.inl rfl, tyX6_ok, nmX6, rfl, (fun _ => rfl), rfl⟩
theorem fp_X6_29_4 : FP RX6 29 4 6 (tyX6 6) true := ⟨_, _, _, _, tyX6, rfl, in_X6, by decide, Or.inl q289, Or.inl rfl, tyX6_ok, nmX6, rfl, (fun _ => rfl), rfl⟩
theorem fp_X6_32_4 : FP RX6 32 4 7 (tyX6 7) true := ⟨_, _, _, _, tyX6, rfl, in_X6, by decide, Or.inl q290, Or.inl rfl, tyX6_ok, nmX6, rfl, (fun _ => rfl), rfl⟩
theorem fp_X6_35_4 : FP RX6 35 4 8 (tyX6 8) true := ⟨_, _, _, _, tyX6, rfl, in_X6, by decide, Or.inl q291, Or.inl rfl, tyX6_ok, nmX6, rfl, (fun _ => rfl), rfl⟩
theorem fp_X6_38_4 : FP RX6 38 4 9 (tyX6 9) true := ⟨_, _, _, _, tyX6, rfl, in_X6, by decide, Or.inl q292, Or.inl rfl, tyX6_ok, nmX6, rfl, (fun _ => rfl), rfl⟩
theorem fp_X6_41_4 : FP RX6 41 4 10 (tyX6 10) true := ⟨_, _, _, _, tyX6, rfl, in_X6, by decide, Or.inl q293, Or.inl rfl, tyX6_ok, nmX6, rfl, (fun _ => rfl), rfl⟩
theorem cs_X6_44 : CS RX6 44 MX6_copy := ⟨wX6_copy, q103, q254, q253, by decide, by decide⟩
theorem cv_X6_48_4 : CV RX6 48 4 MX6_add := ⟨_, _, _, rfl, wX6_add, q103, q260, Or.inl ⟨q259, q261, by decide, by decide⟩⟩
theorem fg_X6_17_4 : FG RX6 17 4 2 := FG.of rfl in_X6 (by decide) q284 rfl
theorem cs_X6_89 : CS RX6 89 MX6_isZero := ⟨wX6_isZero, q103, q627, q673, by decide, by decide⟩
theorem fg_X6_29_4 : FG RX6 29 4 6 := FG.of rfl in_X6 (by decide) q289 rfl
theorem fg_X6_32_4 : FG RX6 32 4 7 := FG.of rfl in_X6 (by decide) q290 rfl
theorem fg_X6_35_4 : FG RX6 35 4 8 := FG.of rfl in_X6 (by decide) q291 rfl
theorem fg_X6_38_4 : FG RX6 38 4 9 := FG.of rfl in_X6 (by decide) q292 rfl
theorem cv_X6_93_4 : CV RX6 93 4 MX6_half := ⟨_, _, _, rfl, wX6_half, q103, q677, Or.inl ⟨q675, qs4, by decide, by decide⟩⟩
theorem cv_X6_97_4 : CV RX6 97 4 MX6_sub := ⟨_, _, _, rfl, wX6_sub, q103, q355, Or.inl ⟨q679, q356, by decide, by decide⟩⟩
theorem fg_X6_26_4 : FG RX6 26 4 5 := FG.of rfl in_X6 (by decide) q288 rfl
theorem fg_X6_41_4 : FG RX6 41 4 10 := FG.of rfl in_X6 (by decide) q293 rfl
theorem cv_X6_100_4 : CV RX6 100 4 MX6_isBelow := ⟨_, _, _, rfl, wX6_isBelow, q103, q623, Or.inl ⟨q622, q624, by decide, by decide⟩⟩
theorem fg_X7_9_5 : FG RX7 9 5 0 := FG.of rfl in_X7 (by decide) q324 rfl
theorem cs_X7_27 : CS RX7 27 MX6_copy := ⟨wX6_copy, q103, q254, q641, by decide, by decide⟩
theorem fg_X7_15_5 : FG RX7 15 5 1 := FG.of rfl in_X7 (by decide) q326 rfl
theorem fg_X7_18_5 : FG RX7 18 5 2 := FG.of rfl in_X7 (by decide) q328 rfl
theorem fp_X7_9_5 : FP RX7 9 5 0 (tyX7 0) true := ⟨_, _, _, _, tyX7, rfl, in_X7, by decide, Or.inl q324, Or.inl rfl, tyX7_ok, nmX7, rfl, (fun _ => rfl), rfl⟩
theorem fp_X7_15_5 : FP RX7 15 5 1 (tyX7 1) true := ⟨_, _, _, _, tyX7, rfl, in_X7, by decide, Or.inl q326, Or.inl rfl, tyX7_ok, nmX7, rfl, (fun _ => rfl), rfl⟩
theorem fp_X7_18_5 : FP RX7 18 5 2 (tyX7 2) true := ⟨_, _, _, _, tyX7, rfl, in_X7, by decide, Or.inl q328, Or.inl rfl, tyX7_ok, nmX7, rfl, (fun _ => rfl), rfl⟩
theorem cs_X7_21 : CS RX7 21 MX6_isZero := ⟨wX6_isZero, q103, q627, q654, by decide, by decide⟩
theorem fp_X8_7_6 : FP RX8 7 6 6 (tyX8 6) false := ⟨_, _, _, _, tyX8, rfl, in_X8, by decide, Or.inl q477, Or.inl rfl, tyX8_ok, nmX8, rfl, (fun e => by cases e), rfl⟩
theorem ci_X8_1 : CI RX8 1 MJ7_init := ⟨rfl, rfl, wJ7_init, q113, q469, rfl, q468, by decide, by decide⟩
theorem fg_X9_11_7 : FG RX9 11 7 0 := FG.of rfl in_X9 (by decide) q500 rfl
theorem cs_X9_22 : CS RX9 22 MX9_place := ⟨wX9_place, q115, q1215, q1214, by decide, by decide⟩
theorem fp_X9_11_7 : FP RX9 11 7 0 (tyX9 0) true := ⟨_, _, _, _, tyX9, rfl, in_X9, by decide, Or.inl q500, Or.inl rfl, tyX9_ok, nmX9, rfl, (fun _ => rfl), rfl⟩
theorem fp_X9_15_7 : FP RX9 15 7 1 (tyX9 1) true := ⟨_, _, _, _, tyX9, rfl, in_X9, by decide, Or.inl q502, Or.inl rfl, tyX9_ok, nmX9, rfl, (fun _ => rfl), rfl⟩
theorem fp_X9_18_7 : FP RX9 18 7 3 (tyX9 3) false := ⟨_, _, _, _, tyX9, rfl, in_X9, by decide, Or.inl q505, Or.inl rfl, tyX9_ok, nmX9, rfl, (fun e => by cases e), rfl⟩
theorem cv_X9_26_7 : CV RX9 26 7 MX9_isFree := ⟨_, _, _, rfl, wX9_isFree, q115, q1212, Or.inl ⟨q1210, qs26, by decide, by decide⟩⟩
theorem cv_X9_32_7 : CV RX9 32 7 MX9_write := ⟨_, _, _, rfl, wX9_write, q115, q1219, Or.inl ⟨q1217, qs27, by decide, by decide⟩⟩
theorem cv_X9_36_7 : CV RX9 36 7 MX9_has := ⟨_, _, _, rfl, wX9_has, q115, q1224, Or.inl ⟨q1222, qs28, by decide, by decide⟩⟩
theorem fg_X9_15_7 : FG RX9 15 7 1 := FG.of rfl in_X9 (by decide) q502 rfl
theorem fg_X9_18_7 : FG RX9 18 7 3 := FG.of rfl in_X9 (by decide) q505 rfl
theorem fp_X9_46_7 : FP RX9 46 7 4 (tyX9 4) false := ⟨_, _, _, _, tyX9, rfl, in_X9, by decide, Or.inl q507, Or.inl rfl, tyX9_ok, nmX9, rfl, (fun e => by cases e), rfl⟩
theorem fg_X9_50_7 : FG RX9 50 7 2 := FG.of rfl in_X9 (by decide) q503 rfl
theorem fp_X9_50_7 : FP RX9 50 7 2 (tyX9 2) false := ⟨_, _, _, _, tyX9, rfl, in_X9, by decide, Or.inl q503, Or.inl rfl, tyX9_ok, nmX9, rfl, (fun e => by cases e), rfl⟩
