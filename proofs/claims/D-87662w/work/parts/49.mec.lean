set_option maxRecDepth 100000
/-! the reference: points on their way -/
section ME
variable {A : Nat → Nat} {X : AH} {R : Nat → Nat} {I : Nat → Nat → Int32} {S : Nat → List Int32} {F : Nat → Int32} {h : AH}
theorem mO_sp {s : Nat} (hs : s < 31) : mO A F (400 + s) = Ob 13 [.ref (A (200 + s)), .ref (A (300 + s)), .int (F (400 + s))] := by
  unfold mO
  rw [if_neg (by omega), if_neg (by omega), if_pos (by omega), show 400 + s - 200 = 200 + s by omega, show 400 + s - 100 = 300 + s by omega]
theorem MW.sp (w : MW A X R I S F h) (s : Nat) (hs : s < 31) : h (A (400 + s)) = some (Ob 13 [.ref (A (200 + s)), .ref (A (300 + s)), .int (F (400 + s))]) := by
  rw [← mO_sp hs]
  exact w.o _ (kd_spot (by omega) (by omega))
def r8 (k : Nat) (R : Nat → Nat) : Nat → Nat := rAdd k k k (rAdd k k k (rAdd k k k R))
theorem eight_ok (g : GX) (w : MW A X R I S F h) (k : Nat) (hk : kdM k = (1, 0, 12)) : MT g MX10_eight ({ frames := 3, cells := 0, slots := 0, locals := 70 } : Room) [.ref (A 96), .ref (A k)] h (RV fun h' => MW A X (r8 k R) I S F h') := by
  refine MT.of (by decide) (Nat.le_of_ble_eq_true rfl) ?_
  have stp : ∀ (i : Nat) (R' : Nat → Nat) (h' : AH), i < 3 → MW A X R' I S F h' → (∀ h2, MW A X (rAdd k k k R') I S F h2 → XX g MX10_eight ({ frames := 3, cells := 0, slots := 0, locals := 70 } : Room) (RV fun h' => MW A X (r8 k R) I S F h') 0 0 2 [(2, .int (nI (i + 1))), (0, .ref (A 96)), (1, .ref (A k))] [] h2) →
      XX g MX10_eight ({ frames := 3, cells := 0, slots := 0, locals := 70 } : Room) (RV fun h' => MW A X (r8 k R) I S F h') 0 0 2 [(2, .int (nI i)), (0, .ref (A 96)), (1, .ref (A k))] [] h' := by
    intro i R' h' hi w hx
    refine X_iload_n (pc := 2) 0 dX10_eight_2 rfl rfl ?_
    refine X_iconst (pc := 3) (x := 3) dX10_eight_3 (by decide) ?_
    refine X_cge (pc := 4) 23 (b := 3) dX10_eight_4 (by decide) (by omega) (by omega) (fun c => absurd c (by omega)) (fun _ => ?_)
    refine X_aload_n (pc := 7) 1 dX10_eight_7 rfl rfl ?_
    refine X_getfield (pc := 8) dX10_eight_8 fg_X10_61_11 w.ob mf_9 ?_
    refine X_aload_n (pc := 11) 2 dX10_eight_11 rfl rfl ?_
    refine X_aload_n (pc := 12) 2 dX10_eight_12 rfl rfl ?_
    refine X_aload_n (pc := 13) 2 dX10_eight_13 rfl rfl ?_
    refine X_isv (pc := 14) _ dX10_eight_14 cs_X10_155 rfl (maPr g w k k k hk hk hk) nX10_add (Nat.le_of_ble_eq_true rfl) (Nat.le_of_ble_eq_true rfl) (Nat.le_of_ble_eq_true rfl) (Nat.le_of_ble_eq_true rfl) (fun h2 w2 => ?_)
    refine X_iinc (pc := 17) (L' := [(2, .int (_ + 1)), (0, .ref _), (1, .ref _)]) 0 dX10_eight_17 rfl rfl (Nat.le_of_ble_eq_true rfl) rfl ?_
    refine X_goto (pc := 20) 2 dX10_eight_20 (by decide) ?_
    rw [nI_1]
    exact hx h2 w2
  refine X_iconst (pc := 0) (x := 0) dX10_eight_0 (by decide) ?_
  refine X_istore_n (pc := 1) (L' := [(2, .int _), (0, .ref _), (1, .ref _)]) dX10_eight_1 rfl (Nat.le_of_ble_eq_true rfl) rfl ?_
  refine stp 0 R h (by decide) w (fun h1 w1 => stp 1 _ h1 (by decide) w1 (fun h2 w2 => stp 2 _ h2 (by decide) w2 (fun h3 w3 => ?_)))
  refine X_iload_n (pc := 2) 0 dX10_eight_2 rfl rfl ?_
  refine X_iconst (pc := 3) (x := 3) dX10_eight_3 (by decide) ?_
  refine X_cge (pc := 4) 23 (b := 3) dX10_eight_4 (by decide) (by omega) (by omega) (fun _ => ?_) (fun c => absurd c (by decide))
  refine X_return (pc := 23) dX10_eight_23 rfl (Nat.le_of_ble_eq_true rfl) (Nat.le_of_ble_eq_true rfl) ?_
  exact ⟨rfl, w3⟩
def dblR (R : Nat → Nat) : Nat → Nat := r8 19 (rMul 19 20 21 (rMul 20 21 21 (rAdd 17 17 17 (rMul 17 23 21 (rSub 18 22 20 (r8 20 (rMul 20 20 20 (rMul 20 18 21 (rMul 22 20 22 (rSub 22 22 23 (rSub 23 23 22 (rSub 23 23 22 (rMul 23 20 20 (rAdd 22 22 22 (rAdd 22 22 22 (rMul 22 22 21 (rMul 22 17 18 (rMul 21 18 19 (rAdd 20 20 21 (rAdd 20 21 21 (rSub 21 21 20 (rMul 21 17 17 (rMul 20 19 19 R)))))))))))))))))))))))
set_option maxHeartbeats 4000000 in
theorem doubles_ok (g : GX) (w : MW A X R I S F h) : MT g MX10_doubles ({ frames := 4, cells := 0, slots := 0, locals := 112 } : Room) [.ref (A 96)] h (RV fun h' => MW A X (dblR R) I S F h') := by
  refine MT.of (by decide) (Nat.le_of_ble_eq_true rfl) ?_
  refine X_aload_n (pc := 0) 0 dX10_doubles_0 rfl rfl ?_
  refine X_aload_n (pc := 1) 0 dX10_doubles_1 rfl rfl ?_
  refine X_getfield (pc := 2) dX10_doubles_2 fg_X10_61_11 (MW.ob w) mf_9 ?_
  refine X_aload_n (pc := 5) 0 dX10_doubles_5 rfl rfl ?_
  refine X_getfield (pc := 6) dX10_doubles_6 fg_X10_168_11 (MW.ob w) mf_19 ?_
  refine X_aload_n (pc := 9) 0 dX10_doubles_9 rfl rfl ?_
  refine X_getfield (pc := 10) dX10_doubles_10 fg_X10_168_11 (MW.ob w) mf_19 ?_
  refine X_aload_n (pc := 13) 0 dX10_doubles_13 rfl rfl ?_
  refine X_getfield (pc := 14) dX10_doubles_14 fg_X10_171_11 (MW.ob w) mf_20 ?_
  refine X_ivv (pc := 17) _ dX10_doubles_17 cv_X10_102_11 (MW.ob w) rfl (mtPr g w 20 19 19 rfl rfl rfl) nX10_times (Nat.le_of_ble_eq_true rfl) (Nat.le_of_ble_eq_true rfl) (Nat.le_of_ble_eq_true rfl) (Nat.le_of_ble_eq_true rfl) (fun h_1 w_1 => ?_)
  refine X_aload_n (pc := 20) 0 dX10_doubles_20 rfl rfl ?_
  refine X_aload_n (pc := 21) 0 dX10_doubles_21 rfl rfl ?_
  refine X_getfield (pc := 22) dX10_doubles_22 fg_X10_61_11 (MW.ob w_1) mf_9 ?_
  refine X_aload_n (pc := 25) 0 dX10_doubles_25 rfl rfl ?_
  refine X_getfield (pc := 26) dX10_doubles_26 fg_X10_174_11 (MW.ob w_1) mf_17 ?_
  refine X_aload_n (pc := 29) 0 dX10_doubles_29 rfl rfl ?_
  refine X_getfield (pc := 30) dX10_doubles_30 fg_X10_174_11 (MW.ob w_1) mf_17 ?_
  refine X_aload_n (pc := 33) 0 dX10_doubles_33 rfl rfl ?_
  refine X_getfield (pc := 34) dX10_doubles_34 fg_X10_177_11 (MW.ob w_1) mf_21 ?_
  refine X_ivv (pc := 37) _ dX10_doubles_37 cv_X10_102_11 (MW.ob w_1) rfl (mtPr g w_1 21 17 17 rfl rfl rfl) nX10_times (Nat.le_of_ble_eq_true rfl) (Nat.le_of_ble_eq_true rfl) (Nat.le_of_ble_eq_true rfl) (Nat.le_of_ble_eq_true rfl) (fun h_2 w_2 => ?_)
  refine X_aload_n (pc := 40) 0 dX10_doubles_40 rfl rfl ?_
  refine X_getfield (pc := 41) dX10_doubles_41 fg_X10_61_11 (MW.ob w_2) mf_9 ?_
  refine X_aload_n (pc := 44) 0 dX10_doubles_44 rfl rfl ?_
  refine X_getfield (pc := 45) dX10_doubles_45 fg_X10_177_11 (MW.ob w_2) mf_21 ?_
  refine X_aload_n (pc := 48) 0 dX10_doubles_48 rfl rfl ?_
  refine X_getfield (pc := 49) dX10_doubles_49 fg_X10_171_11 (MW.ob w_2) mf_20 ?_
  refine X_aload_n (pc := 52) 0 dX10_doubles_52 rfl rfl ?_
  refine X_getfield (pc := 53) dX10_doubles_53 fg_X10_177_11 (MW.ob w_2) mf_21 ?_
  refine X_isv (pc := 56) _ dX10_doubles_56 cs_X10_130 rfl (msPr g w_2 21 21 20 rfl rfl rfl) nX10_sub (Nat.le_of_ble_eq_true rfl) (Nat.le_of_ble_eq_true rfl) (Nat.le_of_ble_eq_true rfl) (Nat.le_of_ble_eq_true rfl) (fun h_3 w_3 => ?_)
  refine X_aload_n (pc := 59) 0 dX10_doubles_59 rfl rfl ?_
  refine X_getfield (pc := 60) dX10_doubles_60 fg_X10_61_11 (MW.ob w_3) mf_9 ?_
  refine X_aload_n (pc := 63) 0 dX10_doubles_63 rfl rfl ?_
  refine X_getfield (pc := 64) dX10_doubles_64 fg_X10_177_11 (MW.ob w_3) mf_21 ?_
  refine X_aload_n (pc := 67) 0 dX10_doubles_67 rfl rfl ?_
  refine X_getfield (pc := 68) dX10_doubles_68 fg_X10_177_11 (MW.ob w_3) mf_21 ?_
  refine X_aload_n (pc := 71) 0 dX10_doubles_71 rfl rfl ?_
  refine X_getfield (pc := 72) dX10_doubles_72 fg_X10_171_11 (MW.ob w_3) mf_20 ?_
  refine X_isv (pc := 75) _ dX10_doubles_75 cs_X10_155 rfl (maPr g w_3 20 21 21 rfl rfl rfl) nX10_add (Nat.le_of_ble_eq_true rfl) (Nat.le_of_ble_eq_true rfl) (Nat.le_of_ble_eq_true rfl) (Nat.le_of_ble_eq_true rfl) (fun h_4 w_4 => ?_)
  refine X_aload_n (pc := 78) 0 dX10_doubles_78 rfl rfl ?_
  refine X_getfield (pc := 79) dX10_doubles_79 fg_X10_61_11 (MW.ob w_4) mf_9 ?_
  refine X_aload_n (pc := 82) 0 dX10_doubles_82 rfl rfl ?_
  refine X_getfield (pc := 83) dX10_doubles_83 fg_X10_171_11 (MW.ob w_4) mf_20 ?_
  refine X_aload_n (pc := 86) 0 dX10_doubles_86 rfl rfl ?_
  refine X_getfield (pc := 87) dX10_doubles_87 fg_X10_177_11 (MW.ob w_4) mf_21 ?_
  refine X_aload_n (pc := 90) 0 dX10_doubles_90 rfl rfl ?_
  refine X_getfield (pc := 91) dX10_doubles_91 fg_X10_171_11 (MW.ob w_4) mf_20 ?_
  refine X_isv (pc := 94) _ dX10_doubles_94 cs_X10_155 rfl (maPr g w_4 20 20 21 rfl rfl rfl) nX10_add (Nat.le_of_ble_eq_true rfl) (Nat.le_of_ble_eq_true rfl) (Nat.le_of_ble_eq_true rfl) (Nat.le_of_ble_eq_true rfl) (fun h_5 w_5 => ?_)
  refine X_aload_n (pc := 97) 0 dX10_doubles_97 rfl rfl ?_
  refine X_aload_n (pc := 98) 0 dX10_doubles_98 rfl rfl ?_
  refine X_getfield (pc := 99) dX10_doubles_99 fg_X10_61_11 (MW.ob w_5) mf_9 ?_
  refine X_aload_n (pc := 102) 0 dX10_doubles_102 rfl rfl ?_
  refine X_getfield (pc := 103) dX10_doubles_103 fg_X10_180_11 (MW.ob w_5) mf_18 ?_
  refine X_aload_n (pc := 106) 0 dX10_doubles_106 rfl rfl ?_
  refine X_getfield (pc := 107) dX10_doubles_107 fg_X10_168_11 (MW.ob w_5) mf_19 ?_
  refine X_aload_n (pc := 110) 0 dX10_doubles_110 rfl rfl ?_
  refine X_getfield (pc := 111) dX10_doubles_111 fg_X10_177_11 (MW.ob w_5) mf_21 ?_
  refine X_ivv (pc := 114) _ dX10_doubles_114 cv_X10_102_11 (MW.ob w_5) rfl (mtPr g w_5 21 18 19 rfl rfl rfl) nX10_times (Nat.le_of_ble_eq_true rfl) (Nat.le_of_ble_eq_true rfl) (Nat.le_of_ble_eq_true rfl) (Nat.le_of_ble_eq_true rfl) (fun h_6 w_6 => ?_)
  refine X_aload_n (pc := 117) 0 dX10_doubles_117 rfl rfl ?_
  refine X_aload_n (pc := 118) 0 dX10_doubles_118 rfl rfl ?_
  refine X_getfield (pc := 119) dX10_doubles_119 fg_X10_61_11 (MW.ob w_6) mf_9 ?_
  refine X_aload_n (pc := 122) 0 dX10_doubles_122 rfl rfl ?_
  refine X_getfield (pc := 123) dX10_doubles_123 fg_X10_174_11 (MW.ob w_6) mf_17 ?_
  refine X_aload_n (pc := 126) 0 dX10_doubles_126 rfl rfl ?_
  refine X_getfield (pc := 127) dX10_doubles_127 fg_X10_180_11 (MW.ob w_6) mf_18 ?_
  refine X_aload_n (pc := 130) 0 dX10_doubles_130 rfl rfl ?_
  refine X_getfield (pc := 131) dX10_doubles_131 fg_X10_183_11 (MW.ob w_6) mf_22 ?_
  refine X_ivv (pc := 134) _ dX10_doubles_134 cv_X10_102_11 (MW.ob w_6) rfl (mtPr g w_6 22 17 18 rfl rfl rfl) nX10_times (Nat.le_of_ble_eq_true rfl) (Nat.le_of_ble_eq_true rfl) (Nat.le_of_ble_eq_true rfl) (Nat.le_of_ble_eq_true rfl) (fun h_7 w_7 => ?_)
  refine X_aload_n (pc := 137) 0 dX10_doubles_137 rfl rfl ?_
  refine X_aload_n (pc := 138) 0 dX10_doubles_138 rfl rfl ?_
  refine X_getfield (pc := 139) dX10_doubles_139 fg_X10_61_11 (MW.ob w_7) mf_9 ?_
  refine X_aload_n (pc := 142) 0 dX10_doubles_142 rfl rfl ?_
  refine X_getfield (pc := 143) dX10_doubles_143 fg_X10_183_11 (MW.ob w_7) mf_22 ?_
  refine X_aload_n (pc := 146) 0 dX10_doubles_146 rfl rfl ?_
  refine X_getfield (pc := 147) dX10_doubles_147 fg_X10_177_11 (MW.ob w_7) mf_21 ?_
  refine X_aload_n (pc := 150) 0 dX10_doubles_150 rfl rfl ?_
  refine X_getfield (pc := 151) dX10_doubles_151 fg_X10_183_11 (MW.ob w_7) mf_22 ?_
  refine X_ivv (pc := 154) _ dX10_doubles_154 cv_X10_102_11 (MW.ob w_7) rfl (mtPr g w_7 22 22 21 rfl rfl rfl) nX10_times (Nat.le_of_ble_eq_true rfl) (Nat.le_of_ble_eq_true rfl) (Nat.le_of_ble_eq_true rfl) (Nat.le_of_ble_eq_true rfl) (fun h_8 w_8 => ?_)
  refine X_aload_n (pc := 157) 0 dX10_doubles_157 rfl rfl ?_
  refine X_getfield (pc := 158) dX10_doubles_158 fg_X10_61_11 (MW.ob w_8) mf_9 ?_
  refine X_aload_n (pc := 161) 0 dX10_doubles_161 rfl rfl ?_
  refine X_getfield (pc := 162) dX10_doubles_162 fg_X10_183_11 (MW.ob w_8) mf_22 ?_
  refine X_aload_n (pc := 165) 0 dX10_doubles_165 rfl rfl ?_
  refine X_getfield (pc := 166) dX10_doubles_166 fg_X10_183_11 (MW.ob w_8) mf_22 ?_
  refine X_aload_n (pc := 169) 0 dX10_doubles_169 rfl rfl ?_
  refine X_getfield (pc := 170) dX10_doubles_170 fg_X10_183_11 (MW.ob w_8) mf_22 ?_
  refine X_isv (pc := 173) _ dX10_doubles_173 cs_X10_155 rfl (maPr g w_8 22 22 22 rfl rfl rfl) nX10_add (Nat.le_of_ble_eq_true rfl) (Nat.le_of_ble_eq_true rfl) (Nat.le_of_ble_eq_true rfl) (Nat.le_of_ble_eq_true rfl) (fun h_9 w_9 => ?_)
  refine X_aload_n (pc := 176) 0 dX10_doubles_176 rfl rfl ?_
  refine X_getfield (pc := 177) dX10_doubles_177 fg_X10_61_11 (MW.ob w_9) mf_9 ?_
  refine X_aload_n (pc := 180) 0 dX10_doubles_180 rfl rfl ?_
  refine X_getfield (pc := 181) dX10_doubles_181 fg_X10_183_11 (MW.ob w_9) mf_22 ?_
  refine X_aload_n (pc := 184) 0 dX10_doubles_184 rfl rfl ?_
  refine X_getfield (pc := 185) dX10_doubles_185 fg_X10_183_11 (MW.ob w_9) mf_22 ?_
  refine X_aload_n (pc := 188) 0 dX10_doubles_188 rfl rfl ?_
  refine X_getfield (pc := 189) dX10_doubles_189 fg_X10_183_11 (MW.ob w_9) mf_22 ?_
  refine X_isv (pc := 192) _ dX10_doubles_192 cs_X10_155 rfl (maPr g w_9 22 22 22 rfl rfl rfl) nX10_add (Nat.le_of_ble_eq_true rfl) (Nat.le_of_ble_eq_true rfl) (Nat.le_of_ble_eq_true rfl) (Nat.le_of_ble_eq_true rfl) (fun h_10 w_10 => ?_)
  refine X_aload_n (pc := 195) 0 dX10_doubles_195 rfl rfl ?_
  refine X_aload_n (pc := 196) 0 dX10_doubles_196 rfl rfl ?_
  refine X_getfield (pc := 197) dX10_doubles_197 fg_X10_61_11 (MW.ob w_10) mf_9 ?_
  refine X_aload_n (pc := 200) 0 dX10_doubles_200 rfl rfl ?_
  refine X_getfield (pc := 201) dX10_doubles_201 fg_X10_171_11 (MW.ob w_10) mf_20 ?_
  refine X_aload_n (pc := 204) 0 dX10_doubles_204 rfl rfl ?_
  refine X_getfield (pc := 205) dX10_doubles_205 fg_X10_171_11 (MW.ob w_10) mf_20 ?_
  refine X_aload_n (pc := 208) 0 dX10_doubles_208 rfl rfl ?_
  refine X_getfield (pc := 209) dX10_doubles_209 fg_X10_186_11 (MW.ob w_10) mf_23 ?_
  refine X_ivv (pc := 212) _ dX10_doubles_212 cv_X10_102_11 (MW.ob w_10) rfl (mtPr g w_10 23 20 20 rfl rfl rfl) nX10_times (Nat.le_of_ble_eq_true rfl) (Nat.le_of_ble_eq_true rfl) (Nat.le_of_ble_eq_true rfl) (Nat.le_of_ble_eq_true rfl) (fun h_11 w_11 => ?_)
  refine X_aload_n (pc := 215) 0 dX10_doubles_215 rfl rfl ?_
  refine X_getfield (pc := 216) dX10_doubles_216 fg_X10_61_11 (MW.ob w_11) mf_9 ?_
  refine X_aload_n (pc := 219) 0 dX10_doubles_219 rfl rfl ?_
  refine X_getfield (pc := 220) dX10_doubles_220 fg_X10_186_11 (MW.ob w_11) mf_23 ?_
  refine X_aload_n (pc := 223) 0 dX10_doubles_223 rfl rfl ?_
  refine X_getfield (pc := 224) dX10_doubles_224 fg_X10_183_11 (MW.ob w_11) mf_22 ?_
  refine X_aload_n (pc := 227) 0 dX10_doubles_227 rfl rfl ?_
  refine X_getfield (pc := 228) dX10_doubles_228 fg_X10_186_11 (MW.ob w_11) mf_23 ?_
  refine X_isv (pc := 231) _ dX10_doubles_231 cs_X10_130 rfl (msPr g w_11 23 23 22 rfl rfl rfl) nX10_sub (Nat.le_of_ble_eq_true rfl) (Nat.le_of_ble_eq_true rfl) (Nat.le_of_ble_eq_true rfl) (Nat.le_of_ble_eq_true rfl) (fun h_12 w_12 => ?_)
  refine X_aload_n (pc := 234) 0 dX10_doubles_234 rfl rfl ?_
  refine X_getfield (pc := 235) dX10_doubles_235 fg_X10_61_11 (MW.ob w_12) mf_9 ?_
  refine X_aload_n (pc := 238) 0 dX10_doubles_238 rfl rfl ?_
  refine X_getfield (pc := 239) dX10_doubles_239 fg_X10_186_11 (MW.ob w_12) mf_23 ?_
  refine X_aload_n (pc := 242) 0 dX10_doubles_242 rfl rfl ?_
  refine X_getfield (pc := 243) dX10_doubles_243 fg_X10_183_11 (MW.ob w_12) mf_22 ?_
  refine X_aload_n (pc := 246) 0 dX10_doubles_246 rfl rfl ?_
  refine X_getfield (pc := 247) dX10_doubles_247 fg_X10_186_11 (MW.ob w_12) mf_23 ?_
  refine X_isv (pc := 250) _ dX10_doubles_250 cs_X10_130 rfl (msPr g w_12 23 23 22 rfl rfl rfl) nX10_sub (Nat.le_of_ble_eq_true rfl) (Nat.le_of_ble_eq_true rfl) (Nat.le_of_ble_eq_true rfl) (Nat.le_of_ble_eq_true rfl) (fun h_13 w_13 => ?_)
  refine X_aload_n (pc := 253) 0 dX10_doubles_253 rfl rfl ?_
  refine X_getfield (pc := 254) dX10_doubles_254 fg_X10_61_11 (MW.ob w_13) mf_9 ?_
  refine X_aload_n (pc := 257) 0 dX10_doubles_257 rfl rfl ?_
  refine X_getfield (pc := 258) dX10_doubles_258 fg_X10_183_11 (MW.ob w_13) mf_22 ?_
  refine X_aload_n (pc := 261) 0 dX10_doubles_261 rfl rfl ?_
  refine X_getfield (pc := 262) dX10_doubles_262 fg_X10_186_11 (MW.ob w_13) mf_23 ?_
  refine X_aload_n (pc := 265) 0 dX10_doubles_265 rfl rfl ?_
  refine X_getfield (pc := 266) dX10_doubles_266 fg_X10_183_11 (MW.ob w_13) mf_22 ?_
  refine X_isv (pc := 269) _ dX10_doubles_269 cs_X10_130 rfl (msPr g w_13 22 22 23 rfl rfl rfl) nX10_sub (Nat.le_of_ble_eq_true rfl) (Nat.le_of_ble_eq_true rfl) (Nat.le_of_ble_eq_true rfl) (Nat.le_of_ble_eq_true rfl) (fun h_14 w_14 => ?_)
  refine X_aload_n (pc := 272) 0 dX10_doubles_272 rfl rfl ?_
  refine X_aload_n (pc := 273) 0 dX10_doubles_273 rfl rfl ?_
  refine X_getfield (pc := 274) dX10_doubles_274 fg_X10_61_11 (MW.ob w_14) mf_9 ?_
  refine X_aload_n (pc := 277) 0 dX10_doubles_277 rfl rfl ?_
  refine X_getfield (pc := 278) dX10_doubles_278 fg_X10_171_11 (MW.ob w_14) mf_20 ?_
  refine X_aload_n (pc := 281) 0 dX10_doubles_281 rfl rfl ?_
  refine X_getfield (pc := 282) dX10_doubles_282 fg_X10_183_11 (MW.ob w_14) mf_22 ?_
  refine X_aload_n (pc := 285) 0 dX10_doubles_285 rfl rfl ?_
  refine X_getfield (pc := 286) dX10_doubles_286 fg_X10_183_11 (MW.ob w_14) mf_22 ?_
  refine X_ivv (pc := 289) _ dX10_doubles_289 cv_X10_102_11 (MW.ob w_14) rfl (mtPr g w_14 22 20 22 rfl rfl rfl) nX10_times (Nat.le_of_ble_eq_true rfl) (Nat.le_of_ble_eq_true rfl) (Nat.le_of_ble_eq_true rfl) (Nat.le_of_ble_eq_true rfl) (fun h_15 w_15 => ?_)
  refine X_aload_n (pc := 292) 0 dX10_doubles_292 rfl rfl ?_
  refine X_aload_n (pc := 293) 0 dX10_doubles_293 rfl rfl ?_
  refine X_getfield (pc := 294) dX10_doubles_294 fg_X10_61_11 (MW.ob w_15) mf_9 ?_
  refine X_aload_n (pc := 297) 0 dX10_doubles_297 rfl rfl ?_
  refine X_getfield (pc := 298) dX10_doubles_298 fg_X10_180_11 (MW.ob w_15) mf_18 ?_
  refine X_aload_n (pc := 301) 0 dX10_doubles_301 rfl rfl ?_
  refine X_getfield (pc := 302) dX10_doubles_302 fg_X10_177_11 (MW.ob w_15) mf_21 ?_
  refine X_aload_n (pc := 305) 0 dX10_doubles_305 rfl rfl ?_
  refine X_getfield (pc := 306) dX10_doubles_306 fg_X10_171_11 (MW.ob w_15) mf_20 ?_
  refine X_ivv (pc := 309) _ dX10_doubles_309 cv_X10_102_11 (MW.ob w_15) rfl (mtPr g w_15 20 18 21 rfl rfl rfl) nX10_times (Nat.le_of_ble_eq_true rfl) (Nat.le_of_ble_eq_true rfl) (Nat.le_of_ble_eq_true rfl) (Nat.le_of_ble_eq_true rfl) (fun h_16 w_16 => ?_)
  refine X_aload_n (pc := 312) 0 dX10_doubles_312 rfl rfl ?_
  refine X_aload_n (pc := 313) 0 dX10_doubles_313 rfl rfl ?_
  refine X_getfield (pc := 314) dX10_doubles_314 fg_X10_61_11 (MW.ob w_16) mf_9 ?_
  refine X_aload_n (pc := 317) 0 dX10_doubles_317 rfl rfl ?_
  refine X_getfield (pc := 318) dX10_doubles_318 fg_X10_171_11 (MW.ob w_16) mf_20 ?_
  refine X_aload_n (pc := 321) 0 dX10_doubles_321 rfl rfl ?_
  refine X_getfield (pc := 322) dX10_doubles_322 fg_X10_171_11 (MW.ob w_16) mf_20 ?_
  refine X_aload_n (pc := 325) 0 dX10_doubles_325 rfl rfl ?_
  refine X_getfield (pc := 326) dX10_doubles_326 fg_X10_171_11 (MW.ob w_16) mf_20 ?_
  refine X_ivv (pc := 329) _ dX10_doubles_329 cv_X10_102_11 (MW.ob w_16) rfl (mtPr g w_16 20 20 20 rfl rfl rfl) nX10_times (Nat.le_of_ble_eq_true rfl) (Nat.le_of_ble_eq_true rfl) (Nat.le_of_ble_eq_true rfl) (Nat.le_of_ble_eq_true rfl) (fun h_17 w_17 => ?_)
  refine X_aload_n (pc := 332) 0 dX10_doubles_332 rfl rfl ?_
  refine X_aload_n (pc := 333) 0 dX10_doubles_333 rfl rfl ?_
  refine X_getfield (pc := 334) dX10_doubles_334 fg_X10_171_11 (MW.ob w_17) mf_20 ?_
  refine X_ivv (pc := 337) _ dX10_doubles_337 cv_X10_189_11 (MW.ob w_17) rfl (eight_ok g w_17 20 rfl) nX10_eight (Nat.le_of_ble_eq_true rfl) (Nat.le_of_ble_eq_true rfl) (Nat.le_of_ble_eq_true rfl) (Nat.le_of_ble_eq_true rfl) (fun h_18 w_18 => ?_)
  refine X_aload_n (pc := 340) 0 dX10_doubles_340 rfl rfl ?_
  refine X_getfield (pc := 341) dX10_doubles_341 fg_X10_61_11 (MW.ob w_18) mf_9 ?_
  refine X_aload_n (pc := 344) 0 dX10_doubles_344 rfl rfl ?_
  refine X_getfield (pc := 345) dX10_doubles_345 fg_X10_183_11 (MW.ob w_18) mf_22 ?_
  refine X_aload_n (pc := 348) 0 dX10_doubles_348 rfl rfl ?_
  refine X_getfield (pc := 349) dX10_doubles_349 fg_X10_171_11 (MW.ob w_18) mf_20 ?_
  refine X_aload_n (pc := 352) 0 dX10_doubles_352 rfl rfl ?_
  refine X_getfield (pc := 353) dX10_doubles_353 fg_X10_180_11 (MW.ob w_18) mf_18 ?_
  refine X_isv (pc := 356) _ dX10_doubles_356 cs_X10_130 rfl (msPr g w_18 18 22 20 rfl rfl rfl) nX10_sub (Nat.le_of_ble_eq_true rfl) (Nat.le_of_ble_eq_true rfl) (Nat.le_of_ble_eq_true rfl) (Nat.le_of_ble_eq_true rfl) (fun h_19 w_19 => ?_)
  refine X_aload_n (pc := 359) 0 dX10_doubles_359 rfl rfl ?_
  refine X_aload_n (pc := 360) 0 dX10_doubles_360 rfl rfl ?_
  refine X_getfield (pc := 361) dX10_doubles_361 fg_X10_61_11 (MW.ob w_19) mf_9 ?_
  refine X_aload_n (pc := 364) 0 dX10_doubles_364 rfl rfl ?_
  refine X_getfield (pc := 365) dX10_doubles_365 fg_X10_186_11 (MW.ob w_19) mf_23 ?_
  refine X_aload_n (pc := 368) 0 dX10_doubles_368 rfl rfl ?_
  refine X_getfield (pc := 369) dX10_doubles_369 fg_X10_177_11 (MW.ob w_19) mf_21 ?_
  refine X_aload_n (pc := 372) 0 dX10_doubles_372 rfl rfl ?_
  refine X_getfield (pc := 373) dX10_doubles_373 fg_X10_174_11 (MW.ob w_19) mf_17 ?_
  refine X_ivv (pc := 376) _ dX10_doubles_376 cv_X10_102_11 (MW.ob w_19) rfl (mtPr g w_19 17 23 21 rfl rfl rfl) nX10_times (Nat.le_of_ble_eq_true rfl) (Nat.le_of_ble_eq_true rfl) (Nat.le_of_ble_eq_true rfl) (Nat.le_of_ble_eq_true rfl) (fun h_20 w_20 => ?_)
  refine X_aload_n (pc := 379) 0 dX10_doubles_379 rfl rfl ?_
  refine X_getfield (pc := 380) dX10_doubles_380 fg_X10_61_11 (MW.ob w_20) mf_9 ?_
  refine X_aload_n (pc := 383) 0 dX10_doubles_383 rfl rfl ?_
  refine X_getfield (pc := 384) dX10_doubles_384 fg_X10_174_11 (MW.ob w_20) mf_17 ?_
  refine X_aload_n (pc := 387) 0 dX10_doubles_387 rfl rfl ?_
  refine X_getfield (pc := 388) dX10_doubles_388 fg_X10_174_11 (MW.ob w_20) mf_17 ?_
  refine X_aload_n (pc := 391) 0 dX10_doubles_391 rfl rfl ?_
  refine X_getfield (pc := 392) dX10_doubles_392 fg_X10_174_11 (MW.ob w_20) mf_17 ?_
  refine X_isv (pc := 395) _ dX10_doubles_395 cs_X10_155 rfl (maPr g w_20 17 17 17 rfl rfl rfl) nX10_add (Nat.le_of_ble_eq_true rfl) (Nat.le_of_ble_eq_true rfl) (Nat.le_of_ble_eq_true rfl) (Nat.le_of_ble_eq_true rfl) (fun h_21 w_21 => ?_)
  refine X_aload_n (pc := 398) 0 dX10_doubles_398 rfl rfl ?_
  refine X_aload_n (pc := 399) 0 dX10_doubles_399 rfl rfl ?_
  refine X_getfield (pc := 400) dX10_doubles_400 fg_X10_61_11 (MW.ob w_21) mf_9 ?_
  refine X_aload_n (pc := 403) 0 dX10_doubles_403 rfl rfl ?_
  refine X_getfield (pc := 404) dX10_doubles_404 fg_X10_177_11 (MW.ob w_21) mf_21 ?_
  refine X_aload_n (pc := 407) 0 dX10_doubles_407 rfl rfl ?_
  refine X_getfield (pc := 408) dX10_doubles_408 fg_X10_177_11 (MW.ob w_21) mf_21 ?_
  refine X_aload_n (pc := 411) 0 dX10_doubles_411 rfl rfl ?_
  refine X_getfield (pc := 412) dX10_doubles_412 fg_X10_171_11 (MW.ob w_21) mf_20 ?_
  refine X_ivv (pc := 415) _ dX10_doubles_415 cv_X10_102_11 (MW.ob w_21) rfl (mtPr g w_21 20 21 21 rfl rfl rfl) nX10_times (Nat.le_of_ble_eq_true rfl) (Nat.le_of_ble_eq_true rfl) (Nat.le_of_ble_eq_true rfl) (Nat.le_of_ble_eq_true rfl) (fun h_22 w_22 => ?_)
  refine X_aload_n (pc := 418) 0 dX10_doubles_418 rfl rfl ?_
  refine X_aload_n (pc := 419) 0 dX10_doubles_419 rfl rfl ?_
  refine X_getfield (pc := 420) dX10_doubles_420 fg_X10_61_11 (MW.ob w_22) mf_9 ?_
  refine X_aload_n (pc := 423) 0 dX10_doubles_423 rfl rfl ?_
  refine X_getfield (pc := 424) dX10_doubles_424 fg_X10_171_11 (MW.ob w_22) mf_20 ?_
  refine X_aload_n (pc := 427) 0 dX10_doubles_427 rfl rfl ?_
  refine X_getfield (pc := 428) dX10_doubles_428 fg_X10_177_11 (MW.ob w_22) mf_21 ?_
  refine X_aload_n (pc := 431) 0 dX10_doubles_431 rfl rfl ?_
  refine X_getfield (pc := 432) dX10_doubles_432 fg_X10_168_11 (MW.ob w_22) mf_19 ?_
  refine X_ivv (pc := 435) _ dX10_doubles_435 cv_X10_102_11 (MW.ob w_22) rfl (mtPr g w_22 19 20 21 rfl rfl rfl) nX10_times (Nat.le_of_ble_eq_true rfl) (Nat.le_of_ble_eq_true rfl) (Nat.le_of_ble_eq_true rfl) (Nat.le_of_ble_eq_true rfl) (fun h_23 w_23 => ?_)
  refine X_aload_n (pc := 438) 0 dX10_doubles_438 rfl rfl ?_
  refine X_aload_n (pc := 439) 0 dX10_doubles_439 rfl rfl ?_
  refine X_getfield (pc := 440) dX10_doubles_440 fg_X10_168_11 (MW.ob w_23) mf_19 ?_
  refine X_ivv (pc := 443) _ dX10_doubles_443 cv_X10_189_11 (MW.ob w_23) rfl (eight_ok g w_23 19 rfl) nX10_eight (Nat.le_of_ble_eq_true rfl) (Nat.le_of_ble_eq_true rfl) (Nat.le_of_ble_eq_true rfl) (Nat.le_of_ble_eq_true rfl) (fun h_24 w_24 => ?_)
  refine X_return (pc := 446) dX10_doubles_446 rfl (Nat.le_of_ble_eq_true rfl) (Nat.le_of_ble_eq_true rfl) ?_
  exact ⟨rfl, w_24⟩
end ME
