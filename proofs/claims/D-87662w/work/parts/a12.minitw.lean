set_option maxRecDepth 100000
/-! the reference's constructor: all that is made -/
section MIw
variable {g : GX} {Q : Outcome → AH → Prop} {A : Nat → Nat} {P : Nat → AC} {X h : AH} {a0 : Nat}
set_option maxHeartbeats 4000000 in
theorem initW0 (w : PI pd0 A P 1 X h) (ha : A 96 = a0) (kk : ∀ A P h', PI pd0 A P 13 X h' → A 96 = a0 → XX g MX10_init ({ frames := 2, cells := 256, slots := 26510, locals := 46 } : Room) Q 20 848 113 [(0, .ref a0)] [] h') : XX g MX10_init ({ frames := 2, cells := 256, slots := 26510, locals := 46 } : Room) Q 0 0 4 [(0, .ref a0)] [] h := by
  refine X_aload_n (pc := 4) 0 dX10_init_4 rfl rfl ?_
  refine X_sipush (pc := 5) (x := 130) dX10_init_5 (by decide) ?_
  refine X_new_int 130 (pc := 8) dX10_init_8 rfl (by decide) (Nat.le_of_ble_eq_true rfl) (Nat.le_of_ble_eq_true rfl) (fun q hq => ?_)
  obtain ⟨hbb, A, P, w, ha⟩ := w.oneW (c0 := Ai false 0 130 (fun _ => 0)) ha (by decide) (by decide) rfl rfl rfl (by decide) (fun A => rfl) hq
  refine X_putfield (pc := 10) dX10_init_10 fp_X10_36_11 (fun _ => rfl) hbb rfl rfl (by rw [gFl_len]; decide) ?_
  generalize hset (hset h q _) a0 _ = h at w ⊢
  clear hq hbb
  refine X_aload_n (pc := 13) 0 dX10_init_13 rfl rfl ?_
  refine X_bipush (pc := 14) (x := 16) dX10_init_14 (by decide) ?_
  refine X_new_long 16 (pc := 16) dX10_init_16 rfl (by decide) (Nat.le_of_ble_eq_true rfl) (Nat.le_of_ble_eq_true rfl) (fun q hq => ?_)
  obtain ⟨hbb, A, P, w, ha⟩ := w.oneW (c0 := Al false 16 (fun _ => 0)) ha (by decide) (by decide) rfl rfl rfl (by decide) (fun A => rfl) hq
  refine X_putfield (pc := 18) dX10_init_18 fp_X10_73_11 (fun _ => rfl) hbb rfl rfl (by rw [gFl_len]; decide) ?_
  generalize hset (hset h q _) a0 _ = h at w ⊢
  clear hq hbb
  refine X_aload_n (pc := 21) 0 dX10_init_21 rfl rfl ?_
  refine X_bipush (pc := 22) (x := 64) dX10_init_22 (by decide) ?_
  refine X_new_int 64 (pc := 24) dX10_init_24 rfl (by decide) (Nat.le_of_ble_eq_true rfl) (Nat.le_of_ble_eq_true rfl) (fun q hq => ?_)
  obtain ⟨hbb, A, P, w, ha⟩ := w.oneW (c0 := Ai false 0 64 (fun _ => 0)) ha (by decide) (by decide) rfl rfl rfl (by decide) (fun A => rfl) hq
  refine X_putfield (pc := 26) dX10_init_26 fp_X10_88_11 (fun _ => rfl) hbb rfl rfl (by rw [gFl_len]; decide) ?_
  generalize hset (hset h q _) a0 _ = h at w ⊢
  clear hq hbb
  refine X_aload_n (pc := 29) 0 dX10_init_29 rfl rfl ?_
  refine X_bipush (pc := 30) (x := 64) dX10_init_30 (by decide) ?_
  refine X_new_int 64 (pc := 32) dX10_init_32 rfl (by decide) (Nat.le_of_ble_eq_true rfl) (Nat.le_of_ble_eq_true rfl) (fun q hq => ?_)
  obtain ⟨hbb, A, P, w, ha⟩ := w.oneW (c0 := Ai false 0 64 (fun _ => 0)) ha (by decide) (by decide) rfl rfl rfl (by decide) (fun A => rfl) hq
  refine X_putfield (pc := 34) dX10_init_34 fp_X10_95_11 (fun _ => rfl) hbb rfl rfl (by rw [gFl_len]; decide) ?_
  generalize hset (hset h q _) a0 _ = h at w ⊢
  clear hq hbb
  refine X_aload_n (pc := 37) 0 dX10_init_37 rfl rfl ?_
  refine X_bipush (pc := 38) (x := 64) dX10_init_38 (by decide) ?_
  refine X_new_int 64 (pc := 40) dX10_init_40 rfl (by decide) (Nat.le_of_ble_eq_true rfl) (Nat.le_of_ble_eq_true rfl) (fun q hq => ?_)
  obtain ⟨hbb, A, P, w, ha⟩ := w.oneW (c0 := Ai false 0 64 (fun _ => 0)) ha (by decide) (by decide) rfl rfl rfl (by decide) (fun A => rfl) hq
  refine X_putfield (pc := 42) dX10_init_42 fp_X10_110_11 (fun _ => rfl) hbb rfl rfl (by rw [gFl_len]; decide) ?_
  generalize hset (hset h q _) a0 _ = h at w ⊢
  clear hq hbb
  refine X_aload_n (pc := 45) 0 dX10_init_45 rfl rfl ?_
  refine X_bipush (pc := 46) (x := 64) dX10_init_46 (by decide) ?_
  refine X_new_int 64 (pc := 48) dX10_init_48 rfl (by decide) (Nat.le_of_ble_eq_true rfl) (Nat.le_of_ble_eq_true rfl) (fun q hq => ?_)
  obtain ⟨hbb, A, P, w, ha⟩ := w.oneW (c0 := Ai false 0 64 (fun _ => 0)) ha (by decide) (by decide) rfl rfl rfl (by decide) (fun A => rfl) hq
  refine X_putfield (pc := 50) dX10_init_50 fp_X10_113_11 (fun _ => rfl) hbb rfl rfl (by rw [gFl_len]; decide) ?_
  generalize hset (hset h q _) a0 _ = h at w ⊢
  clear hq hbb
  refine X_aload_n (pc := 53) 0 dX10_init_53 rfl rfl ?_
  refine X_bipush (pc := 54) (x := 64) dX10_init_54 (by decide) ?_
  refine X_new_int 64 (pc := 56) dX10_init_56 rfl (by decide) (Nat.le_of_ble_eq_true rfl) (Nat.le_of_ble_eq_true rfl) (fun q hq => ?_)
  obtain ⟨hbb, A, P, w, ha⟩ := w.oneW (c0 := Ai false 0 64 (fun _ => 0)) ha (by decide) (by decide) rfl rfl rfl (by decide) (fun A => rfl) hq
  refine X_putfield (pc := 58) dX10_init_58 fp_X10_116_11 (fun _ => rfl) hbb rfl rfl (by rw [gFl_len]; decide) ?_
  generalize hset (hset h q _) a0 _ = h at w ⊢
  clear hq hbb
  refine X_aload_n (pc := 61) 0 dX10_init_61 rfl rfl ?_
  refine X_bipush (pc := 62) (x := 64) dX10_init_62 (by decide) ?_
  refine X_new_int 64 (pc := 64) dX10_init_64 rfl (by decide) (Nat.le_of_ble_eq_true rfl) (Nat.le_of_ble_eq_true rfl) (fun q hq => ?_)
  obtain ⟨hbb, A, P, w, ha⟩ := w.oneW (c0 := Ai false 0 64 (fun _ => 0)) ha (by decide) (by decide) rfl rfl rfl (by decide) (fun A => rfl) hq
  refine X_putfield (pc := 66) dX10_init_66 fp_X10_119_11 (fun _ => rfl) hbb rfl rfl (by rw [gFl_len]; decide) ?_
  generalize hset (hset h q _) a0 _ = h at w ⊢
  clear hq hbb
  refine X_aload_n (pc := 69) 0 dX10_init_69 rfl rfl ?_
  refine X_new tyX11 (ci := 12) (fs := [.null, .null, .int 0, .int 0]) (pc := 70) dX10_init_70 rfl in_X11 tyX11_ok q1331 q1332 q117 dfX11 (Nat.le_of_ble_eq_true rfl) (Nat.le_of_ble_eq_true rfl) (fun b hb => ?_)
  refine X_dup (pc := 73) dX10_init_73 rfl ?_
  refine X_iqv (pc := 74) _ dX10_init_74 cin_X10_490 rfl (modInit_ok g (hset_self _ _ _)) nX11_init (Nat.le_of_ble_eq_true rfl) (Nat.le_of_ble_eq_true rfl) (Nat.le_of_ble_eq_true rfl) (Nat.le_of_ble_eq_true rfl) (fun h2 q2 => ?_)
  obtain ⟨x, y, hx, hy, exy, rfl⟩ := q2
  obtain ⟨hbb, A, P, w, ha⟩ := w.moduW ha (s := 0) (by decide) rfl (by decide) rfl rfl rfl rfl hb hx hy exy
  refine X_putfield (pc := 77) dX10_init_77 fp_X10_61_11 (fun _ => rfl) hbb rfl rfl (by rw [gFl_len]; decide) ?_
  generalize hset (hset (hset (hset (hset h b _) x _) y _) b _) a0 _ = h at w ⊢
  clear hb hx hy exy hbb
  refine X_aload_n (pc := 80) 0 dX10_init_80 rfl rfl ?_
  refine X_new tyX11 (ci := 12) (fs := [.null, .null, .int 0, .int 0]) (pc := 81) dX10_init_81 rfl in_X11 tyX11_ok q1331 q1332 q117 dfX11 (Nat.le_of_ble_eq_true rfl) (Nat.le_of_ble_eq_true rfl) (fun b hb => ?_)
  refine X_dup (pc := 84) dX10_init_84 rfl ?_
  refine X_iqv (pc := 85) _ dX10_init_85 cin_X10_490 rfl (modInit_ok g (hset_self _ _ _)) nX11_init (Nat.le_of_ble_eq_true rfl) (Nat.le_of_ble_eq_true rfl) (Nat.le_of_ble_eq_true rfl) (Nat.le_of_ble_eq_true rfl) (fun h2 q2 => ?_)
  obtain ⟨x, y, hx, hy, exy, rfl⟩ := q2
  obtain ⟨hbb, A, P, w, ha⟩ := w.moduW ha (s := 1) (by decide) rfl (by decide) rfl rfl rfl rfl hb hx hy exy
  refine X_putfield (pc := 88) dX10_init_88 fp_X10_360_11 (fun _ => rfl) hbb rfl rfl (by rw [gFl_len]; decide) ?_
  generalize hset (hset (hset (hset (hset h b _) x _) y _) b _) a0 _ = h at w ⊢
  clear hb hx hy exy hbb
  refine X_aload_n (pc := 91) 0 dX10_init_91 rfl rfl ?_
  refine X_new tyX12 (ci := 13) (fs := [.null, .null, .int 0]) (pc := 92) dX10_init_92 rfl in_X12 tyX12_ok q1354 q1355 q118 dfX12 (Nat.le_of_ble_eq_true rfl) (Nat.le_of_ble_eq_true rfl) (fun b hb => ?_)
  refine X_dup (pc := 95) dX10_init_95 rfl ?_
  refine X_iqv (pc := 96) _ dX10_init_96 cin_X10_491 rfl (spotInit_ok g (hset_self _ _ _)) nX12_init (Nat.le_of_ble_eq_true rfl) (Nat.le_of_ble_eq_true rfl) (Nat.le_of_ble_eq_true rfl) (Nat.le_of_ble_eq_true rfl) (fun h2 q2 => ?_)
  obtain ⟨x, y, hx, hy, exy, rfl⟩ := q2
  obtain ⟨hbb, A, P, w, ha⟩ := w.spotW ha (s := 0) (by decide) rfl (by decide) rfl rfl rfl rfl hb hx hy exy
  refine X_putfield (pc := 99) dX10_init_99 fp_X10_465_11 (fun _ => rfl) hbb rfl rfl (by rw [gFl_len]; decide) ?_
  generalize hset (hset (hset (hset (hset h b _) x _) y _) b _) a0 _ = h at w ⊢
  clear hb hx hy exy hbb
  refine X_aload_n (pc := 102) 0 dX10_init_102 rfl rfl ?_
  refine X_new tyX12 (ci := 13) (fs := [.null, .null, .int 0]) (pc := 103) dX10_init_103 rfl in_X12 tyX12_ok q1354 q1355 q118 dfX12 (Nat.le_of_ble_eq_true rfl) (Nat.le_of_ble_eq_true rfl) (fun b hb => ?_)
  refine X_dup (pc := 106) dX10_init_106 rfl ?_
  refine X_iqv (pc := 107) _ dX10_init_107 cin_X10_491 rfl (spotInit_ok g (hset_self _ _ _)) nX12_init (Nat.le_of_ble_eq_true rfl) (Nat.le_of_ble_eq_true rfl) (Nat.le_of_ble_eq_true rfl) (Nat.le_of_ble_eq_true rfl) (fun h2 q2 => ?_)
  obtain ⟨x, y, hx, hy, exy, rfl⟩ := q2
  obtain ⟨hbb, A, P, w, ha⟩ := w.spotW ha (s := 1) (by decide) rfl (by decide) rfl rfl rfl rfl hb hx hy exy
  refine X_putfield (pc := 110) dX10_init_110 fp_X10_192_11 (fun _ => rfl) hbb rfl rfl (by rw [gFl_len]; decide) ?_
  generalize hset (hset (hset (hset (hset h b _) x _) y _) b _) a0 _ = h at w ⊢
  clear hb hx hy exy hbb
  exact kk A P h w ha
set_option maxHeartbeats 4000000 in
theorem initW1 (w : PI pd0 A P 13 X h) (ha : A 96 = a0) (kk : ∀ A P h', PI pd0 A P 25 X h' → A 96 = a0 → XX g MX10_init ({ frames := 2, cells := 256, slots := 26510, locals := 46 } : Room) Q 32 992 209 [(0, .ref a0)] [] h') : XX g MX10_init ({ frames := 2, cells := 256, slots := 26510, locals := 46 } : Room) Q 20 848 113 [(0, .ref a0)] [] h := by
  refine X_aload_n (pc := 113) 0 dX10_init_113 rfl rfl ?_
  refine X_bipush (pc := 114) (x := 12) dX10_init_114 (by decide) ?_
  refine X_new_int 12 (pc := 116) dX10_init_116 rfl (by decide) (Nat.le_of_ble_eq_true rfl) (Nat.le_of_ble_eq_true rfl) (fun q hq => ?_)
  obtain ⟨hbb, A, P, w, ha⟩ := w.oneW (c0 := Ai false 0 12 (fun _ => 0)) ha (by decide) (by decide) rfl rfl rfl (by decide) (fun A => rfl) hq
  refine X_putfield (pc := 118) dX10_init_118 fp_X10_158_11 (fun _ => rfl) hbb rfl rfl (by rw [gFl_len]; decide) ?_
  generalize hset (hset h q _) a0 _ = h at w ⊢
  clear hq hbb
  refine X_aload_n (pc := 121) 0 dX10_init_121 rfl rfl ?_
  refine X_bipush (pc := 122) (x := 12) dX10_init_122 (by decide) ?_
  refine X_new_int 12 (pc := 124) dX10_init_124 rfl (by decide) (Nat.le_of_ble_eq_true rfl) (Nat.le_of_ble_eq_true rfl) (fun q hq => ?_)
  obtain ⟨hbb, A, P, w, ha⟩ := w.oneW (c0 := Ai false 0 12 (fun _ => 0)) ha (by decide) (by decide) rfl rfl rfl (by decide) (fun A => rfl) hq
  refine X_putfield (pc := 126) dX10_init_126 fp_X10_152_11 (fun _ => rfl) hbb rfl rfl (by rw [gFl_len]; decide) ?_
  generalize hset (hset h q _) a0 _ = h at w ⊢
  clear hq hbb
  refine X_aload_n (pc := 129) 0 dX10_init_129 rfl rfl ?_
  refine X_bipush (pc := 130) (x := 12) dX10_init_130 (by decide) ?_
  refine X_new_int 12 (pc := 132) dX10_init_132 rfl (by decide) (Nat.le_of_ble_eq_true rfl) (Nat.le_of_ble_eq_true rfl) (fun q hq => ?_)
  obtain ⟨hbb, A, P, w, ha⟩ := w.oneW (c0 := Ai false 0 12 (fun _ => 0)) ha (by decide) (by decide) rfl rfl rfl (by decide) (fun A => rfl) hq
  refine X_putfield (pc := 134) dX10_init_134 fp_X10_165_11 (fun _ => rfl) hbb rfl rfl (by rw [gFl_len]; decide) ?_
  generalize hset (hset h q _) a0 _ = h at w ⊢
  clear hq hbb
  refine X_aload_n (pc := 137) 0 dX10_init_137 rfl rfl ?_
  refine X_bipush (pc := 138) (x := 12) dX10_init_138 (by decide) ?_
  refine X_new_int 12 (pc := 140) dX10_init_140 rfl (by decide) (Nat.le_of_ble_eq_true rfl) (Nat.le_of_ble_eq_true rfl) (fun q hq => ?_)
  obtain ⟨hbb, A, P, w, ha⟩ := w.oneW (c0 := Ai false 0 12 (fun _ => 0)) ha (by decide) (by decide) rfl rfl rfl (by decide) (fun A => rfl) hq
  refine X_putfield (pc := 142) dX10_init_142 fp_X10_210_11 (fun _ => rfl) hbb rfl rfl (by rw [gFl_len]; decide) ?_
  generalize hset (hset h q _) a0 _ = h at w ⊢
  clear hq hbb
  refine X_aload_n (pc := 145) 0 dX10_init_145 rfl rfl ?_
  refine X_bipush (pc := 146) (x := 12) dX10_init_146 (by decide) ?_
  refine X_new_int 12 (pc := 148) dX10_init_148 rfl (by decide) (Nat.le_of_ble_eq_true rfl) (Nat.le_of_ble_eq_true rfl) (fun q hq => ?_)
  obtain ⟨hbb, A, P, w, ha⟩ := w.oneW (c0 := Ai false 0 12 (fun _ => 0)) ha (by decide) (by decide) rfl rfl rfl (by decide) (fun A => rfl) hq
  refine X_putfield (pc := 150) dX10_init_150 fp_X10_174_11 (fun _ => rfl) hbb rfl rfl (by rw [gFl_len]; decide) ?_
  generalize hset (hset h q _) a0 _ = h at w ⊢
  clear hq hbb
  refine X_aload_n (pc := 153) 0 dX10_init_153 rfl rfl ?_
  refine X_bipush (pc := 154) (x := 12) dX10_init_154 (by decide) ?_
  refine X_new_int 12 (pc := 156) dX10_init_156 rfl (by decide) (Nat.le_of_ble_eq_true rfl) (Nat.le_of_ble_eq_true rfl) (fun q hq => ?_)
  obtain ⟨hbb, A, P, w, ha⟩ := w.oneW (c0 := Ai false 0 12 (fun _ => 0)) ha (by decide) (by decide) rfl rfl rfl (by decide) (fun A => rfl) hq
  refine X_putfield (pc := 158) dX10_init_158 fp_X10_180_11 (fun _ => rfl) hbb rfl rfl (by rw [gFl_len]; decide) ?_
  generalize hset (hset h q _) a0 _ = h at w ⊢
  clear hq hbb
  refine X_aload_n (pc := 161) 0 dX10_init_161 rfl rfl ?_
  refine X_bipush (pc := 162) (x := 12) dX10_init_162 (by decide) ?_
  refine X_new_int 12 (pc := 164) dX10_init_164 rfl (by decide) (Nat.le_of_ble_eq_true rfl) (Nat.le_of_ble_eq_true rfl) (fun q hq => ?_)
  obtain ⟨hbb, A, P, w, ha⟩ := w.oneW (c0 := Ai false 0 12 (fun _ => 0)) ha (by decide) (by decide) rfl rfl rfl (by decide) (fun A => rfl) hq
  refine X_putfield (pc := 166) dX10_init_166 fp_X10_168_11 (fun _ => rfl) hbb rfl rfl (by rw [gFl_len]; decide) ?_
  generalize hset (hset h q _) a0 _ = h at w ⊢
  clear hq hbb
  refine X_aload_n (pc := 169) 0 dX10_init_169 rfl rfl ?_
  refine X_bipush (pc := 170) (x := 12) dX10_init_170 (by decide) ?_
  refine X_new_int 12 (pc := 172) dX10_init_172 rfl (by decide) (Nat.le_of_ble_eq_true rfl) (Nat.le_of_ble_eq_true rfl) (fun q hq => ?_)
  obtain ⟨hbb, A, P, w, ha⟩ := w.oneW (c0 := Ai false 0 12 (fun _ => 0)) ha (by decide) (by decide) rfl rfl rfl (by decide) (fun A => rfl) hq
  refine X_putfield (pc := 174) dX10_init_174 fp_X10_171_11 (fun _ => rfl) hbb rfl rfl (by rw [gFl_len]; decide) ?_
  generalize hset (hset h q _) a0 _ = h at w ⊢
  clear hq hbb
  refine X_aload_n (pc := 177) 0 dX10_init_177 rfl rfl ?_
  refine X_bipush (pc := 178) (x := 12) dX10_init_178 (by decide) ?_
  refine X_new_int 12 (pc := 180) dX10_init_180 rfl (by decide) (Nat.le_of_ble_eq_true rfl) (Nat.le_of_ble_eq_true rfl) (fun q hq => ?_)
  obtain ⟨hbb, A, P, w, ha⟩ := w.oneW (c0 := Ai false 0 12 (fun _ => 0)) ha (by decide) (by decide) rfl rfl rfl (by decide) (fun A => rfl) hq
  refine X_putfield (pc := 182) dX10_init_182 fp_X10_177_11 (fun _ => rfl) hbb rfl rfl (by rw [gFl_len]; decide) ?_
  generalize hset (hset h q _) a0 _ = h at w ⊢
  clear hq hbb
  refine X_aload_n (pc := 185) 0 dX10_init_185 rfl rfl ?_
  refine X_bipush (pc := 186) (x := 12) dX10_init_186 (by decide) ?_
  refine X_new_int 12 (pc := 188) dX10_init_188 rfl (by decide) (Nat.le_of_ble_eq_true rfl) (Nat.le_of_ble_eq_true rfl) (fun q hq => ?_)
  obtain ⟨hbb, A, P, w, ha⟩ := w.oneW (c0 := Ai false 0 12 (fun _ => 0)) ha (by decide) (by decide) rfl rfl rfl (by decide) (fun A => rfl) hq
  refine X_putfield (pc := 190) dX10_init_190 fp_X10_183_11 (fun _ => rfl) hbb rfl rfl (by rw [gFl_len]; decide) ?_
  generalize hset (hset h q _) a0 _ = h at w ⊢
  clear hq hbb
  refine X_aload_n (pc := 193) 0 dX10_init_193 rfl rfl ?_
  refine X_bipush (pc := 194) (x := 12) dX10_init_194 (by decide) ?_
  refine X_new_int 12 (pc := 196) dX10_init_196 rfl (by decide) (Nat.le_of_ble_eq_true rfl) (Nat.le_of_ble_eq_true rfl) (fun q hq => ?_)
  obtain ⟨hbb, A, P, w, ha⟩ := w.oneW (c0 := Ai false 0 12 (fun _ => 0)) ha (by decide) (by decide) rfl rfl rfl (by decide) (fun A => rfl) hq
  refine X_putfield (pc := 198) dX10_init_198 fp_X10_186_11 (fun _ => rfl) hbb rfl rfl (by rw [gFl_len]; decide) ?_
  generalize hset (hset h q _) a0 _ = h at w ⊢
  clear hq hbb
  refine X_aload_n (pc := 201) 0 dX10_init_201 rfl rfl ?_
  refine X_bipush (pc := 202) (x := 12) dX10_init_202 (by decide) ?_
  refine X_new_int 12 (pc := 204) dX10_init_204 rfl (by decide) (Nat.le_of_ble_eq_true rfl) (Nat.le_of_ble_eq_true rfl) (fun q hq => ?_)
  obtain ⟨hbb, A, P, w, ha⟩ := w.oneW (c0 := Ai false 0 12 (fun _ => 0)) ha (by decide) (by decide) rfl rfl rfl (by decide) (fun A => rfl) hq
  refine X_putfield (pc := 206) dX10_init_206 fp_X10_207_11 (fun _ => rfl) hbb rfl rfl (by rw [gFl_len]; decide) ?_
  generalize hset (hset h q _) a0 _ = h at w ⊢
  clear hq hbb
  exact kk A P h w ha
set_option maxHeartbeats 4000000 in
theorem initW2 (w : PI pd0 A P 25 X h) (ha : A 96 = a0) (kk : ∀ A P h', PI pd0 A P 40 X h' → A 96 = a0 → XX g MX10_init ({ frames := 2, cells := 256, slots := 26510, locals := 46 } : Room) Q 46 4815 311 [(0, .ref a0)] [] h') : XX g MX10_init ({ frames := 2, cells := 256, slots := 26510, locals := 46 } : Room) Q 32 992 209 [(0, .ref a0)] [] h := by
  refine X_aload_n (pc := 209) 0 dX10_init_209 rfl rfl ?_
  refine X_sipush (pc := 210) (x := 2600) dX10_init_210 (by decide) ?_
  refine X_new_byte 2600 (pc := 213) dX10_init_213 rfl (by decide) (Nat.le_of_ble_eq_true rfl) (Nat.le_of_ble_eq_true rfl) (fun q hq => ?_)
  obtain ⟨hbb, A, P, w, ha⟩ := w.oneW (c0 := Ai false 2 2600 (fun _ => 0)) ha (by decide) (by decide) rfl rfl rfl (by decide) (fun A => rfl) hq
  refine X_putfield (pc := 215) dX10_init_215 fp_X10_239_11 (fun _ => rfl) hbb rfl rfl (by rw [gFl_len]; decide) ?_
  generalize hset (hset h q _) a0 _ = h at w ⊢
  clear hq hbb
  have w := w.skip (by decide) (by decide) rfl rfl (by decide) rfl
  refine X_aload_n (pc := 218) 0 dX10_init_218 rfl rfl ?_
  refine X_bipush (pc := 219) (x := 48) dX10_init_219 (by decide) ?_
  refine X_new_byte 48 (pc := 221) dX10_init_221 rfl (by decide) (Nat.le_of_ble_eq_true rfl) (Nat.le_of_ble_eq_true rfl) (fun q hq => ?_)
  obtain ⟨hbb, A, P, w, ha⟩ := w.oneW (c0 := Ai false 2 48 (fun _ => 0)) ha (by decide) (by decide) rfl rfl rfl (by decide) (fun A => rfl) hq
  refine X_putfield (pc := 223) dX10_init_223 fp_X10_283_11 (fun _ => rfl) hbb rfl rfl (by rw [gFl_len]; decide) ?_
  generalize hset (hset h q _) a0 _ = h at w ⊢
  clear hq hbb
  refine X_aload_n (pc := 226) 0 dX10_init_226 rfl rfl ?_
  refine X_bipush (pc := 227) (x := 8) dX10_init_227 (by decide) ?_
  refine X_new_int 8 (pc := 229) dX10_init_229 rfl (by decide) (Nat.le_of_ble_eq_true rfl) (Nat.le_of_ble_eq_true rfl) (fun q hq => ?_)
  obtain ⟨hbb, A, P, w, ha⟩ := w.oneW (c0 := Ai false 0 8 (fun _ => 0)) ha (by decide) (by decide) rfl rfl rfl (by decide) (fun A => rfl) hq
  refine X_putfield (pc := 231) dX10_init_231 fp_X10_274_11 (fun _ => rfl) hbb rfl rfl (by rw [gFl_len]; decide) ?_
  generalize hset (hset h q _) a0 _ = h at w ⊢
  clear hq hbb
  refine X_aload_n (pc := 234) 0 dX10_init_234 rfl rfl ?_
  refine X_bipush (pc := 235) (x := 64) dX10_init_235 (by decide) ?_
  refine X_new_int 64 (pc := 237) dX10_init_237 rfl (by decide) (Nat.le_of_ble_eq_true rfl) (Nat.le_of_ble_eq_true rfl) (fun q hq => ?_)
  obtain ⟨hbb, A, P, w, ha⟩ := w.oneW (c0 := Ai false 0 64 (fun _ => 0)) ha (by decide) (by decide) rfl rfl rfl (by decide) (fun A => rfl) hq
  refine X_putfield (pc := 239) dX10_init_239 fp_X10_286_11 (fun _ => rfl) hbb rfl rfl (by rw [gFl_len]; decide) ?_
  generalize hset (hset h q _) a0 _ = h at w ⊢
  clear hq hbb
  refine X_aload_n (pc := 242) 0 dX10_init_242 rfl rfl ?_
  refine X_bipush (pc := 243) (x := 8) dX10_init_243 (by decide) ?_
  refine X_new_long 8 (pc := 245) dX10_init_245 rfl (by decide) (Nat.le_of_ble_eq_true rfl) (Nat.le_of_ble_eq_true rfl) (fun q hq => ?_)
  obtain ⟨hbb, A, P, w, ha⟩ := w.oneW (c0 := Al false 8 (fun _ => 0)) ha (by decide) (by decide) rfl rfl rfl (by decide) (fun A => rfl) hq
  refine X_putfield (pc := 247) dX10_init_247 fp_X10_296_11 (fun _ => rfl) hbb rfl rfl (by rw [gFl_len]; decide) ?_
  generalize hset (hset h q _) a0 _ = h at w ⊢
  clear hq hbb
  refine X_aload_n (pc := 250) 0 dX10_init_250 rfl rfl ?_
  refine X_bipush (pc := 251) (x := 80) dX10_init_251 (by decide) ?_
  refine X_new_long 80 (pc := 253) dX10_init_253 rfl (by decide) (Nat.le_of_ble_eq_true rfl) (Nat.le_of_ble_eq_true rfl) (fun q hq => ?_)
  obtain ⟨hbb, A, P, w, ha⟩ := w.oneW (c0 := Al false 80 (fun _ => 0)) ha (by decide) (by decide) rfl rfl rfl (by decide) (fun A => rfl) hq
  refine X_putfield (pc := 255) dX10_init_255 fp_X10_305_11 (fun _ => rfl) hbb rfl rfl (by rw [gFl_len]; decide) ?_
  generalize hset (hset h q _) a0 _ = h at w ⊢
  clear hq hbb
  refine X_aload_n (pc := 258) 0 dX10_init_258 rfl rfl ?_
  refine X_sipush (pc := 259) (x := 700) dX10_init_259 (by decide) ?_
  refine X_new_byte 700 (pc := 262) dX10_init_262 rfl (by decide) (Nat.le_of_ble_eq_true rfl) (Nat.le_of_ble_eq_true rfl) (fun q hq => ?_)
  obtain ⟨hbb, A, P, w, ha⟩ := w.oneW (c0 := Ai false 2 700 (fun _ => 0)) ha (by decide) (by decide) rfl rfl rfl (by decide) (fun A => rfl) hq
  refine X_putfield (pc := 264) dX10_init_264 fp_X10_328_11 (fun _ => rfl) hbb rfl rfl (by rw [gFl_len]; decide) ?_
  generalize hset (hset h q _) a0 _ = h at w ⊢
  clear hq hbb
  have w := w.skip (by decide) (by decide) rfl rfl (by decide) rfl
  refine X_aload_n (pc := 267) 0 dX10_init_267 rfl rfl ?_
  refine X_bipush (pc := 268) (x := 48) dX10_init_268 (by decide) ?_
  refine X_new_byte 48 (pc := 270) dX10_init_270 rfl (by decide) (Nat.le_of_ble_eq_true rfl) (Nat.le_of_ble_eq_true rfl) (fun q hq => ?_)
  obtain ⟨hbb, A, P, w, ha⟩ := w.oneW (c0 := Ai false 2 48 (fun _ => 0)) ha (by decide) (by decide) rfl rfl rfl (by decide) (fun A => rfl) hq
  refine X_putfield (pc := 272) dX10_init_272 fp_X10_319_11 (fun _ => rfl) hbb rfl rfl (by rw [gFl_len]; decide) ?_
  generalize hset (hset h q _) a0 _ = h at w ⊢
  clear hq hbb
  have w := w.skip (by decide) (by decide) rfl rfl (by decide) rfl
  refine X_aload_n (pc := 275) 0 dX10_init_275 rfl rfl ?_
  refine X_bipush (pc := 276) (x := 48) dX10_init_276 (by decide) ?_
  refine X_new_byte 48 (pc := 278) dX10_init_278 rfl (by decide) (Nat.le_of_ble_eq_true rfl) (Nat.le_of_ble_eq_true rfl) (fun q hq => ?_)
  obtain ⟨hbb, A, P, w, ha⟩ := w.oneW (c0 := Ai false 2 48 (fun _ => 0)) ha (by decide) (by decide) rfl rfl rfl (by decide) (fun A => rfl) hq
  refine X_putfield (pc := 280) dX10_init_280 fp_X10_343_11 (fun _ => rfl) hbb rfl rfl (by rw [gFl_len]; decide) ?_
  generalize hset (hset h q _) a0 _ = h at w ⊢
  clear hq hbb
  refine X_aload_n (pc := 283) 0 dX10_init_283 rfl rfl ?_
  refine X_bipush (pc := 284) (x := 48) dX10_init_284 (by decide) ?_
  refine X_new_byte 48 (pc := 286) dX10_init_286 rfl (by decide) (Nat.le_of_ble_eq_true rfl) (Nat.le_of_ble_eq_true rfl) (fun q hq => ?_)
  obtain ⟨hbb, A, P, w, ha⟩ := w.oneW (c0 := Ai false 2 48 (fun _ => 0)) ha (by decide) (by decide) rfl rfl rfl (by decide) (fun A => rfl) hq
  refine X_putfield (pc := 288) dX10_init_288 fp_X10_346_11 (fun _ => rfl) hbb rfl rfl (by rw [gFl_len]; decide) ?_
  generalize hset (hset h q _) a0 _ = h at w ⊢
  clear hq hbb
  refine X_aload_n (pc := 291) 0 dX10_init_291 rfl rfl ?_
  refine X_sipush (pc := 292) (x := 144) dX10_init_292 (by decide) ?_
  refine X_new_byte 144 (pc := 295) dX10_init_295 rfl (by decide) (Nat.le_of_ble_eq_true rfl) (Nat.le_of_ble_eq_true rfl) (fun q hq => ?_)
  obtain ⟨hbb, A, P, w, ha⟩ := w.oneW (c0 := Ai false 2 144 (fun _ => 0)) ha (by decide) (by decide) rfl rfl rfl (by decide) (fun A => rfl) hq
  refine X_putfield (pc := 297) dX10_init_297 fp_X10_349_11 (fun _ => rfl) hbb rfl rfl (by rw [gFl_len]; decide) ?_
  generalize hset (hset h q _) a0 _ = h at w ⊢
  clear hq hbb
  refine X_aload_n (pc := 300) 0 dX10_init_300 rfl rfl ?_
  refine X_new tyX12 (ci := 13) (fs := [.null, .null, .int 0]) (pc := 301) dX10_init_301 rfl in_X12 tyX12_ok q1354 q1355 q118 dfX12 (Nat.le_of_ble_eq_true rfl) (Nat.le_of_ble_eq_true rfl) (fun b hb => ?_)
  refine X_dup (pc := 304) dX10_init_304 rfl ?_
  refine X_iqv (pc := 305) _ dX10_init_305 cin_X10_491 rfl (spotInit_ok g (hset_self _ _ _)) nX12_init (Nat.le_of_ble_eq_true rfl) (Nat.le_of_ble_eq_true rfl) (Nat.le_of_ble_eq_true rfl) (Nat.le_of_ble_eq_true rfl) (fun h2 q2 => ?_)
  obtain ⟨x, y, hx, hy, exy, rfl⟩ := q2
  obtain ⟨hbb, A, P, w, ha⟩ := w.spotW ha (s := 2) (by decide) rfl (by decide) rfl rfl rfl rfl hb hx hy exy
  refine X_putfield (pc := 308) dX10_init_308 fp_X10_391_11 (fun _ => rfl) hbb rfl rfl (by rw [gFl_len]; decide) ?_
  generalize hset (hset (hset (hset (hset h b _) x _) y _) b _) a0 _ = h at w ⊢
  clear hb hx hy exy hbb
  exact kk A P h w ha
set_option maxHeartbeats 4000000 in
theorem initW3 (w : PI pd0 A P 40 X h) (ha : A 96 = a0) (kk : ∀ A P h', PI pd0 A P 52 X h' → A 96 = a0 → XX g MX10_init ({ frames := 2, cells := 256, slots := 26510, locals := 46 } : Room) Q 62 4981 415 [(0, .ref a0)] [] h') : XX g MX10_init ({ frames := 2, cells := 256, slots := 26510, locals := 46 } : Room) Q 46 4815 311 [(0, .ref a0)] [] h := by
  refine X_aload_n (pc := 311) 0 dX10_init_311 rfl rfl ?_
  refine X_bipush (pc := 312) (x := 12) dX10_init_312 (by decide) ?_
  refine X_new_int 12 (pc := 314) dX10_init_314 rfl (by decide) (Nat.le_of_ble_eq_true rfl) (Nat.le_of_ble_eq_true rfl) (fun q hq => ?_)
  obtain ⟨hbb, A, P, w, ha⟩ := w.oneW (c0 := Ai false 0 12 (fun _ => 0)) ha (by decide) (by decide) rfl rfl rfl (by decide) (fun A => rfl) hq
  refine X_putfield (pc := 316) dX10_init_316 fp_X10_366_11 (fun _ => rfl) hbb rfl rfl (by rw [gFl_len]; decide) ?_
  generalize hset (hset h q _) a0 _ = h at w ⊢
  clear hq hbb
  refine X_aload_n (pc := 319) 0 dX10_init_319 rfl rfl ?_
  refine X_bipush (pc := 320) (x := 12) dX10_init_320 (by decide) ?_
  refine X_new_int 12 (pc := 322) dX10_init_322 rfl (by decide) (Nat.le_of_ble_eq_true rfl) (Nat.le_of_ble_eq_true rfl) (fun q hq => ?_)
  obtain ⟨hbb, A, P, w, ha⟩ := w.oneW (c0 := Ai false 0 12 (fun _ => 0)) ha (by decide) (by decide) rfl rfl rfl (by decide) (fun A => rfl) hq
  refine X_putfield (pc := 324) dX10_init_324 fp_X10_368_11 (fun _ => rfl) hbb rfl rfl (by rw [gFl_len]; decide) ?_
  generalize hset (hset h q _) a0 _ = h at w ⊢
  clear hq hbb
  refine X_aload_n (pc := 327) 0 dX10_init_327 rfl rfl ?_
  refine X_bipush (pc := 328) (x := 12) dX10_init_328 (by decide) ?_
  refine X_new_int 12 (pc := 330) dX10_init_330 rfl (by decide) (Nat.le_of_ble_eq_true rfl) (Nat.le_of_ble_eq_true rfl) (fun q hq => ?_)
  obtain ⟨hbb, A, P, w, ha⟩ := w.oneW (c0 := Ai false 0 12 (fun _ => 0)) ha (by decide) (by decide) rfl rfl rfl (by decide) (fun A => rfl) hq
  refine X_putfield (pc := 332) dX10_init_332 fp_X10_374_11 (fun _ => rfl) hbb rfl rfl (by rw [gFl_len]; decide) ?_
  generalize hset (hset h q _) a0 _ = h at w ⊢
  clear hq hbb
  refine X_aload_n (pc := 335) 0 dX10_init_335 rfl rfl ?_
  refine X_bipush (pc := 336) (x := 12) dX10_init_336 (by decide) ?_
  refine X_new_int 12 (pc := 338) dX10_init_338 rfl (by decide) (Nat.le_of_ble_eq_true rfl) (Nat.le_of_ble_eq_true rfl) (fun q hq => ?_)
  obtain ⟨hbb, A, P, w, ha⟩ := w.oneW (c0 := Ai false 0 12 (fun _ => 0)) ha (by decide) (by decide) rfl rfl rfl (by decide) (fun A => rfl) hq
  refine X_putfield (pc := 340) dX10_init_340 fp_X10_380_11 (fun _ => rfl) hbb rfl rfl (by rw [gFl_len]; decide) ?_
  generalize hset (hset h q _) a0 _ = h at w ⊢
  clear hq hbb
  refine X_aload_n (pc := 343) 0 dX10_init_343 rfl rfl ?_
  refine X_bipush (pc := 344) (x := 12) dX10_init_344 (by decide) ?_
  refine X_new_int 12 (pc := 346) dX10_init_346 rfl (by decide) (Nat.le_of_ble_eq_true rfl) (Nat.le_of_ble_eq_true rfl) (fun q hq => ?_)
  obtain ⟨hbb, A, P, w, ha⟩ := w.oneW (c0 := Ai false 0 12 (fun _ => 0)) ha (by decide) (by decide) rfl rfl rfl (by decide) (fun A => rfl) hq
  refine X_putfield (pc := 348) dX10_init_348 fp_X10_377_11 (fun _ => rfl) hbb rfl rfl (by rw [gFl_len]; decide) ?_
  generalize hset (hset h q _) a0 _ = h at w ⊢
  clear hq hbb
  refine X_aload_n (pc := 351) 0 dX10_init_351 rfl rfl ?_
  refine X_bipush (pc := 352) (x := 12) dX10_init_352 (by decide) ?_
  refine X_new_int 12 (pc := 354) dX10_init_354 rfl (by decide) (Nat.le_of_ble_eq_true rfl) (Nat.le_of_ble_eq_true rfl) (fun q hq => ?_)
  obtain ⟨hbb, A, P, w, ha⟩ := w.oneW (c0 := Ai false 0 12 (fun _ => 0)) ha (by decide) (by decide) rfl rfl rfl (by decide) (fun A => rfl) hq
  refine X_putfield (pc := 356) dX10_init_356 fp_X10_371_11 (fun _ => rfl) hbb rfl rfl (by rw [gFl_len]; decide) ?_
  generalize hset (hset h q _) a0 _ = h at w ⊢
  clear hq hbb
  refine X_aload_n (pc := 359) 0 dX10_init_359 rfl rfl ?_
  refine X_bipush (pc := 360) (x := 12) dX10_init_360 (by decide) ?_
  refine X_new_int 12 (pc := 362) dX10_init_362 rfl (by decide) (Nat.le_of_ble_eq_true rfl) (Nat.le_of_ble_eq_true rfl) (fun q hq => ?_)
  obtain ⟨hbb, A, P, w, ha⟩ := w.oneW (c0 := Ai false 0 12 (fun _ => 0)) ha (by decide) (by decide) rfl rfl rfl (by decide) (fun A => rfl) hq
  refine X_putfield (pc := 364) dX10_init_364 fp_X10_385_11 (fun _ => rfl) hbb rfl rfl (by rw [gFl_len]; decide) ?_
  generalize hset (hset h q _) a0 _ = h at w ⊢
  clear hq hbb
  refine X_aload_n (pc := 367) 0 dX10_init_367 rfl rfl ?_
  refine X_bipush (pc := 368) (x := 12) dX10_init_368 (by decide) ?_
  refine X_new_int 12 (pc := 370) dX10_init_370 rfl (by decide) (Nat.le_of_ble_eq_true rfl) (Nat.le_of_ble_eq_true rfl) (fun q hq => ?_)
  obtain ⟨hbb, A, P, w, ha⟩ := w.oneW (c0 := Ai false 0 12 (fun _ => 0)) ha (by decide) (by decide) rfl rfl rfl (by decide) (fun A => rfl) hq
  refine X_putfield (pc := 372) dX10_init_372 fp_X10_388_11 (fun _ => rfl) hbb rfl rfl (by rw [gFl_len]; decide) ?_
  generalize hset (hset h q _) a0 _ = h at w ⊢
  clear hq hbb
  refine X_aload_n (pc := 375) 0 dX10_init_375 rfl rfl ?_
  refine X_bipush (pc := 376) (x := 8) dX10_init_376 (by decide) ?_
  refine X_newref 8 6 137 (pc := 378) dX10_init_378 q1354 q1373 (fun _ => rfl) rfl (by decide) (Nat.le_of_ble_eq_true rfl) (Nat.le_of_ble_eq_true rfl) (fun q hq => ?_)
  obtain ⟨hbb, A, P, w, ha⟩ := w.oneW (c0 := Ar 6 8 (fun _ => none)) ha (by decide) (by decide) rfl rfl rfl (by decide) (fun A => rfl) hq
  refine X_putfield (pc := 381) dX10_init_381 fp_X10_422_11 (fun _ => rfl) hbb rfl rfl (by rw [gFl_len]; decide) ?_
  generalize hset (hset h q _) a0 _ = h at w ⊢
  clear hq hbb
  refine X_aload_n (pc := 384) 0 dX10_init_384 rfl rfl ?_
  refine X_bipush (pc := 385) (x := 8) dX10_init_385 (by decide) ?_
  refine X_newref 8 6 137 (pc := 387) dX10_init_387 q1354 q1373 (fun _ => rfl) rfl (by decide) (Nat.le_of_ble_eq_true rfl) (Nat.le_of_ble_eq_true rfl) (fun q hq => ?_)
  obtain ⟨hbb, A, P, w, ha⟩ := w.oneW (c0 := Ar 6 8 (fun _ => none)) ha (by decide) (by decide) rfl rfl rfl (by decide) (fun A => rfl) hq
  refine X_putfield (pc := 390) dX10_init_390 fp_X10_429_11 (fun _ => rfl) hbb rfl rfl (by rw [gFl_len]; decide) ?_
  generalize hset (hset h q _) a0 _ = h at w ⊢
  clear hq hbb
  refine X_aload_n (pc := 393) 0 dX10_init_393 rfl rfl ?_
  refine X_new tyX12 (ci := 13) (fs := [.null, .null, .int 0]) (pc := 394) dX10_init_394 rfl in_X12 tyX12_ok q1354 q1355 q118 dfX12 (Nat.le_of_ble_eq_true rfl) (Nat.le_of_ble_eq_true rfl) (fun b hb => ?_)
  refine X_dup (pc := 397) dX10_init_397 rfl ?_
  refine X_iqv (pc := 398) _ dX10_init_398 cin_X10_491 rfl (spotInit_ok g (hset_self _ _ _)) nX12_init (Nat.le_of_ble_eq_true rfl) (Nat.le_of_ble_eq_true rfl) (Nat.le_of_ble_eq_true rfl) (Nat.le_of_ble_eq_true rfl) (fun h2 q2 => ?_)
  obtain ⟨x, y, hx, hy, exy, rfl⟩ := q2
  obtain ⟨hbb, A, P, w, ha⟩ := w.spotW ha (s := 3) (by decide) rfl (by decide) rfl rfl rfl rfl hb hx hy exy
  refine X_putfield (pc := 401) dX10_init_401 fp_X10_417_11 (fun _ => rfl) hbb rfl rfl (by rw [gFl_len]; decide) ?_
  generalize hset (hset (hset (hset (hset h b _) x _) y _) b _) a0 _ = h at w ⊢
  clear hb hx hy exy hbb
  refine X_aload_n (pc := 404) 0 dX10_init_404 rfl rfl ?_
  refine X_new tyX12 (ci := 13) (fs := [.null, .null, .int 0]) (pc := 405) dX10_init_405 rfl in_X12 tyX12_ok q1354 q1355 q118 dfX12 (Nat.le_of_ble_eq_true rfl) (Nat.le_of_ble_eq_true rfl) (fun b hb => ?_)
  refine X_dup (pc := 408) dX10_init_408 rfl ?_
  refine X_iqv (pc := 409) _ dX10_init_409 cin_X10_491 rfl (spotInit_ok g (hset_self _ _ _)) nX12_init (Nat.le_of_ble_eq_true rfl) (Nat.le_of_ble_eq_true rfl) (Nat.le_of_ble_eq_true rfl) (Nat.le_of_ble_eq_true rfl) (fun h2 q2 => ?_)
  obtain ⟨x, y, hx, hy, exy, rfl⟩ := q2
  obtain ⟨hbb, A, P, w, ha⟩ := w.spotW ha (s := 4) (by decide) rfl (by decide) rfl rfl rfl rfl hb hx hy exy
  refine X_putfield (pc := 412) dX10_init_412 fp_X10_419_11 (fun _ => rfl) hbb rfl rfl (by rw [gFl_len]; decide) ?_
  generalize hset (hset (hset (hset (hset h b _) x _) y _) b _) a0 _ = h at w ⊢
  clear hb hx hy exy hbb
  exact kk A P h w ha
set_option maxHeartbeats 4000000 in
theorem initW4 (w : PI pd0 A P 52 X h) (ha : A 96 = a0) (kk : ∀ A P h', PI pd0 A P 64 X h' → A 96 = a0 → XX g MX10_init ({ frames := 2, cells := 256, slots := 26510, locals := 46 } : Room) Q 80 5411 521 [(0, .ref a0)] [] h') : XX g MX10_init ({ frames := 2, cells := 256, slots := 26510, locals := 46 } : Room) Q 62 4981 415 [(0, .ref a0)] [] h := by
  refine X_aload_n (pc := 415) 0 dX10_init_415 rfl rfl ?_
  refine X_new tyX12 (ci := 13) (fs := [.null, .null, .int 0]) (pc := 416) dX10_init_416 rfl in_X12 tyX12_ok q1354 q1355 q118 dfX12 (Nat.le_of_ble_eq_true rfl) (Nat.le_of_ble_eq_true rfl) (fun b hb => ?_)
  refine X_dup (pc := 419) dX10_init_419 rfl ?_
  refine X_iqv (pc := 420) _ dX10_init_420 cin_X10_491 rfl (spotInit_ok g (hset_self _ _ _)) nX12_init (Nat.le_of_ble_eq_true rfl) (Nat.le_of_ble_eq_true rfl) (Nat.le_of_ble_eq_true rfl) (Nat.le_of_ble_eq_true rfl) (fun h2 q2 => ?_)
  obtain ⟨x, y, hx, hy, exy, rfl⟩ := q2
  obtain ⟨hbb, A, P, w, ha⟩ := w.spotW ha (s := 5) (by decide) rfl (by decide) rfl rfl rfl rfl hb hx hy exy
  refine X_putfield (pc := 423) dX10_init_423 fp_X10_450_11 (fun _ => rfl) hbb rfl rfl (by rw [gFl_len]; decide) ?_
  generalize hset (hset (hset (hset (hset h b _) x _) y _) b _) a0 _ = h at w ⊢
  clear hb hx hy exy hbb
  refine X_aload_n (pc := 426) 0 dX10_init_426 rfl rfl ?_
  refine X_new tyX12 (ci := 13) (fs := [.null, .null, .int 0]) (pc := 427) dX10_init_427 rfl in_X12 tyX12_ok q1354 q1355 q118 dfX12 (Nat.le_of_ble_eq_true rfl) (Nat.le_of_ble_eq_true rfl) (fun b hb => ?_)
  refine X_dup (pc := 430) dX10_init_430 rfl ?_
  refine X_iqv (pc := 431) _ dX10_init_431 cin_X10_491 rfl (spotInit_ok g (hset_self _ _ _)) nX12_init (Nat.le_of_ble_eq_true rfl) (Nat.le_of_ble_eq_true rfl) (Nat.le_of_ble_eq_true rfl) (Nat.le_of_ble_eq_true rfl) (fun h2 q2 => ?_)
  obtain ⟨x, y, hx, hy, exy, rfl⟩ := q2
  obtain ⟨hbb, A, P, w, ha⟩ := w.spotW ha (s := 6) (by decide) rfl (by decide) rfl rfl rfl rfl hb hx hy exy
  refine X_putfield (pc := 434) dX10_init_434 fp_X10_453_11 (fun _ => rfl) hbb rfl rfl (by rw [gFl_len]; decide) ?_
  generalize hset (hset (hset (hset (hset h b _) x _) y _) b _) a0 _ = h at w ⊢
  clear hb hx hy exy hbb
  refine X_aload_n (pc := 437) 0 dX10_init_437 rfl rfl ?_
  refine X_new tyX12 (ci := 13) (fs := [.null, .null, .int 0]) (pc := 438) dX10_init_438 rfl in_X12 tyX12_ok q1354 q1355 q118 dfX12 (Nat.le_of_ble_eq_true rfl) (Nat.le_of_ble_eq_true rfl) (fun b hb => ?_)
  refine X_dup (pc := 441) dX10_init_441 rfl ?_
  refine X_iqv (pc := 442) _ dX10_init_442 cin_X10_491 rfl (spotInit_ok g (hset_self _ _ _)) nX12_init (Nat.le_of_ble_eq_true rfl) (Nat.le_of_ble_eq_true rfl) (Nat.le_of_ble_eq_true rfl) (Nat.le_of_ble_eq_true rfl) (fun h2 q2 => ?_)
  obtain ⟨x, y, hx, hy, exy, rfl⟩ := q2
  obtain ⟨hbb, A, P, w, ha⟩ := w.spotW ha (s := 7) (by decide) rfl (by decide) rfl rfl rfl rfl hb hx hy exy
  refine X_putfield (pc := 445) dX10_init_445 fp_X10_443_11 (fun _ => rfl) hbb rfl rfl (by rw [gFl_len]; decide) ?_
  generalize hset (hset (hset (hset (hset h b _) x _) y _) b _) a0 _ = h at w ⊢
  clear hb hx hy exy hbb
  refine X_aload_n (pc := 448) 0 dX10_init_448 rfl rfl ?_
  refine X_bipush (pc := 449) (x := 48) dX10_init_449 (by decide) ?_
  refine X_new_byte 48 (pc := 451) dX10_init_451 rfl (by decide) (Nat.le_of_ble_eq_true rfl) (Nat.le_of_ble_eq_true rfl) (fun q hq => ?_)
  obtain ⟨hbb, A, P, w, ha⟩ := w.oneW (c0 := Ai false 2 48 (fun _ => 0)) ha (by decide) (by decide) rfl rfl rfl (by decide) (fun A => rfl) hq
  refine X_putfield (pc := 453) dX10_init_453 fp_X10_414_11 (fun _ => rfl) hbb rfl rfl (by rw [gFl_len]; decide) ?_
  generalize hset (hset h q _) a0 _ = h at w ⊢
  clear hq hbb
  refine X_aload_n (pc := 456) 0 dX10_init_456 rfl rfl ?_
  refine X_bipush (pc := 457) (x := 49) dX10_init_457 (by decide) ?_
  refine X_new_byte 49 (pc := 459) dX10_init_459 rfl (by decide) (Nat.le_of_ble_eq_true rfl) (Nat.le_of_ble_eq_true rfl) (fun q hq => ?_)
  obtain ⟨hbb, A, P, w, ha⟩ := w.oneW (c0 := Ai false 2 49 (fun _ => 0)) ha (by decide) (by decide) rfl rfl rfl (by decide) (fun A => rfl) hq
  refine X_putfield (pc := 461) dX10_init_461 fp_X10_402_11 (fun _ => rfl) hbb rfl rfl (by rw [gFl_len]; decide) ?_
  generalize hset (hset h q _) a0 _ = h at w ⊢
  clear hq hbb
  refine X_aload_n (pc := 464) 0 dX10_init_464 rfl rfl ?_
  refine X_bipush (pc := 465) (x := 12) dX10_init_465 (by decide) ?_
  refine X_new_int 12 (pc := 467) dX10_init_467 rfl (by decide) (Nat.le_of_ble_eq_true rfl) (Nat.le_of_ble_eq_true rfl) (fun q hq => ?_)
  obtain ⟨hbb, A, P, w, ha⟩ := w.oneW (c0 := Ai false 0 12 (fun _ => 0)) ha (by decide) (by decide) rfl rfl rfl (by decide) (fun A => rfl) hq
  refine X_putfield (pc := 469) dX10_init_469 fp_X10_437_11 (fun _ => rfl) hbb rfl rfl (by rw [gFl_len]; decide) ?_
  generalize hset (hset h q _) a0 _ = h at w ⊢
  clear hq hbb
  refine X_aload_n (pc := 472) 0 dX10_init_472 rfl rfl ?_
  refine X_bipush (pc := 473) (x := 12) dX10_init_473 (by decide) ?_
  refine X_new_int 12 (pc := 475) dX10_init_475 rfl (by decide) (Nat.le_of_ble_eq_true rfl) (Nat.le_of_ble_eq_true rfl) (fun q hq => ?_)
  obtain ⟨hbb, A, P, w, ha⟩ := w.oneW (c0 := Ai false 0 12 (fun _ => 0)) ha (by decide) (by decide) rfl rfl rfl (by decide) (fun A => rfl) hq
  refine X_putfield (pc := 477) dX10_init_477 fp_X10_468_11 (fun _ => rfl) hbb rfl rfl (by rw [gFl_len]; decide) ?_
  generalize hset (hset h q _) a0 _ = h at w ⊢
  clear hq hbb
  refine X_aload_n (pc := 480) 0 dX10_init_480 rfl rfl ?_
  refine X_bipush (pc := 481) (x := 12) dX10_init_481 (by decide) ?_
  refine X_new_int 12 (pc := 483) dX10_init_483 rfl (by decide) (Nat.le_of_ble_eq_true rfl) (Nat.le_of_ble_eq_true rfl) (fun q hq => ?_)
  obtain ⟨hbb, A, P, w, ha⟩ := w.oneW (c0 := Ai false 0 12 (fun _ => 0)) ha (by decide) (by decide) rfl rfl rfl (by decide) (fun A => rfl) hq
  refine X_putfield (pc := 485) dX10_init_485 fp_X10_479_11 (fun _ => rfl) hbb rfl rfl (by rw [gFl_len]; decide) ?_
  generalize hset (hset h q _) a0 _ = h at w ⊢
  clear hq hbb
  refine X_aload_n (pc := 488) 0 dX10_init_488 rfl rfl ?_
  refine X_bipush (pc := 489) (x := 12) dX10_init_489 (by decide) ?_
  refine X_new_int 12 (pc := 491) dX10_init_491 rfl (by decide) (Nat.le_of_ble_eq_true rfl) (Nat.le_of_ble_eq_true rfl) (fun q hq => ?_)
  obtain ⟨hbb, A, P, w, ha⟩ := w.oneW (c0 := Ai false 0 12 (fun _ => 0)) ha (by decide) (by decide) rfl rfl rfl (by decide) (fun A => rfl) hq
  refine X_putfield (pc := 493) dX10_init_493 fp_X10_482_11 (fun _ => rfl) hbb rfl rfl (by rw [gFl_len]; decide) ?_
  generalize hset (hset h q _) a0 _ = h at w ⊢
  clear hq hbb
  refine X_aload_n (pc := 496) 0 dX10_init_496 rfl rfl ?_
  refine X_bipush (pc := 497) (x := 6) dX10_init_497 (by decide) ?_
  refine X_new_int 6 (pc := 499) dX10_init_499 rfl (by decide) (Nat.le_of_ble_eq_true rfl) (Nat.le_of_ble_eq_true rfl) (fun q hq => ?_)
  obtain ⟨hbb, A, P, w, ha⟩ := w.oneW (c0 := Ai false 0 6 (fun _ => 0)) ha (by decide) (by decide) rfl rfl rfl (by decide) (fun A => rfl) hq
  refine X_putfield (pc := 501) dX10_init_501 fp_X10_492_11 (fun _ => rfl) hbb rfl rfl (by rw [gFl_len]; decide) ?_
  generalize hset (hset h q _) a0 _ = h at w ⊢
  clear hq hbb
  refine X_aload_n (pc := 504) 0 dX10_init_504 rfl rfl ?_
  refine X_bipush (pc := 505) (x := 6) dX10_init_505 (by decide) ?_
  refine X_new_boolean 6 (pc := 507) dX10_init_507 rfl (by decide) (Nat.le_of_ble_eq_true rfl) (Nat.le_of_ble_eq_true rfl) (fun q hq => ?_)
  obtain ⟨hbb, A, P, w, ha⟩ := w.oneW (c0 := Ai false 3 6 (fun _ => 0)) ha (by decide) (by decide) rfl rfl rfl (by decide) (fun A => rfl) hq
  refine X_putfield (pc := 509) dX10_init_509 fp_X10_495_11 (fun _ => rfl) hbb rfl rfl (by rw [gFl_len]; decide) ?_
  generalize hset (hset h q _) a0 _ = h at w ⊢
  clear hq hbb
  refine X_aload_n (pc := 512) 0 dX10_init_512 rfl rfl ?_
  refine X_sipush (pc := 513) (x := 192) dX10_init_513 (by decide) ?_
  refine X_new_byte 192 (pc := 516) dX10_init_516 rfl (by decide) (Nat.le_of_ble_eq_true rfl) (Nat.le_of_ble_eq_true rfl) (fun q hq => ?_)
  obtain ⟨hbb, A, P, w, ha⟩ := w.oneW (c0 := Ai false 2 192 (fun _ => 0)) ha (by decide) (by decide) rfl rfl rfl (by decide) (fun A => rfl) hq
  refine X_putfield (pc := 518) dX10_init_518 fp_X10_499_11 (fun _ => rfl) hbb rfl rfl (by rw [gFl_len]; decide) ?_
  generalize hset (hset h q _) a0 _ = h at w ⊢
  clear hq hbb
  exact kk A P h w ha
set_option maxHeartbeats 4000000 in
theorem initW5 (w : PI pd0 A P 64 X h) (ha : A 96 = a0) (kk : ∀ A P h', PI pd0 A P 79 X h' → A 96 = a0 → XX g MX10_init ({ frames := 2, cells := 256, slots := 26510, locals := 46 } : Room) Q 157 19827 626 [(0, .ref a0)] [] h') : XX g MX10_init ({ frames := 2, cells := 256, slots := 26510, locals := 46 } : Room) Q 80 5411 521 [(0, .ref a0)] [] h := by
  refine X_aload_n (pc := 521) 0 dX10_init_521 rfl rfl ?_
  refine X_bipush (pc := 522) (x := 6) dX10_init_522 (by decide) ?_
  refine X_bipush (pc := 524) (x := 64) dX10_init_524 (by decide) ?_
  refine X_multi 6 64 502 (pc := 526) dX10_init_526 q1374 (by decide) (by decide) (Nat.le_of_ble_eq_true rfl) (Nat.le_of_ble_eq_true rfl) (fun q hq => ?_)
  refine XX.arf (hgrid_ArE h q 6) ?_
  obtain ⟨hbb, A, P, w, ha⟩ := w.gridW (N := 6) (b := 530) ha (by decide) (Or.inl ⟨rfl, rfl, rfl⟩) (fun k hk => by unfold pd0; rw [beq_eq_false_iff_ne]; omega) hq
  refine X_putfield (pc := 530) dX10_init_530 fp_X10_475_11 (fun _ => rfl) hbb rfl rfl (by rw [gFl_len]; decide) ?_
  generalize hset (hgrid h q 6) a0 _ = h at w ⊢
  clear hq hbb
  refine X_aload_n (pc := 533) 0 dX10_init_533 rfl rfl ?_
  refine X_bipush (pc := 534) (x := 6) dX10_init_534 (by decide) ?_
  refine X_newref 6 6 137 (pc := 536) dX10_init_536 q1354 q1373 (fun _ => rfl) rfl (by decide) (Nat.le_of_ble_eq_true rfl) (Nat.le_of_ble_eq_true rfl) (fun q hq => ?_)
  obtain ⟨hbb, A, P, w, ha⟩ := w.oneW (c0 := Ar 6 6 (fun _ => none)) ha (by decide) (by decide) rfl rfl rfl (by decide) (fun A => rfl) hq
  refine X_putfield (pc := 539) dX10_init_539 fp_X10_458_11 (fun _ => rfl) hbb rfl rfl (by rw [gFl_len]; decide) ?_
  generalize hset (hset h q _) a0 _ = h at w ⊢
  clear hq hbb
  refine X_aload_n (pc := 542) 0 dX10_init_542 rfl rfl ?_
  refine X_bipush (pc := 543) (x := 6) dX10_init_543 (by decide) ?_
  refine X_newref 6 7 14 (pc := 545) dX10_init_545 q1331 q1376 (fun _ => rfl) rfl (by decide) (Nat.le_of_ble_eq_true rfl) (Nat.le_of_ble_eq_true rfl) (fun q hq => ?_)
  obtain ⟨hbb, A, P, w, ha⟩ := w.oneW (c0 := Ar 7 6 (fun _ => none)) ha (by decide) (by decide) rfl rfl rfl (by decide) (fun A => rfl) hq
  refine X_putfield (pc := 548) dX10_init_548 fp_X10_503_11 (fun _ => rfl) hbb rfl rfl (by rw [gFl_len]; decide) ?_
  generalize hset (hset h q _) a0 _ = h at w ⊢
  clear hq hbb
  refine X_aload_n (pc := 551) 0 dX10_init_551 rfl rfl ?_
  refine X_bipush (pc := 552) (x := 6) dX10_init_552 (by decide) ?_
  refine X_new_int 6 (pc := 554) dX10_init_554 rfl (by decide) (Nat.le_of_ble_eq_true rfl) (Nat.le_of_ble_eq_true rfl) (fun q hq => ?_)
  obtain ⟨hbb, A, P, w, ha⟩ := w.oneW (c0 := Ai false 0 6 (fun _ => 0)) ha (by decide) (by decide) rfl rfl rfl (by decide) (fun A => rfl) hq
  refine X_putfield (pc := 556) dX10_init_556 fp_X10_507_11 (fun _ => rfl) hbb rfl rfl (by rw [gFl_len]; decide) ?_
  generalize hset (hset h q _) a0 _ = h at w ⊢
  clear hq hbb
  refine X_aload_n (pc := 559) 0 dX10_init_559 rfl rfl ?_
  refine X_bipush (pc := 560) (x := 6) dX10_init_560 (by decide) ?_
  refine X_new_int 6 (pc := 562) dX10_init_562 rfl (by decide) (Nat.le_of_ble_eq_true rfl) (Nat.le_of_ble_eq_true rfl) (fun q hq => ?_)
  obtain ⟨hbb, A, P, w, ha⟩ := w.oneW (c0 := Ai false 0 6 (fun _ => 0)) ha (by decide) (by decide) rfl rfl rfl (by decide) (fun A => rfl) hq
  refine X_putfield (pc := 564) dX10_init_564 fp_X10_510_11 (fun _ => rfl) hbb rfl rfl (by rw [gFl_len]; decide) ?_
  generalize hset (hset h q _) a0 _ = h at w ⊢
  clear hq hbb
  refine X_aload_n (pc := 567) 0 dX10_init_567 rfl rfl ?_
  refine X_bipush (pc := 568) (x := 6) dX10_init_568 (by decide) ?_
  refine X_new_int 6 (pc := 570) dX10_init_570 rfl (by decide) (Nat.le_of_ble_eq_true rfl) (Nat.le_of_ble_eq_true rfl) (fun q hq => ?_)
  obtain ⟨hbb, A, P, w, ha⟩ := w.oneW (c0 := Ai false 0 6 (fun _ => 0)) ha (by decide) (by decide) rfl rfl rfl (by decide) (fun A => rfl) hq
  refine X_putfield (pc := 572) dX10_init_572 fp_X10_513_11 (fun _ => rfl) hbb rfl rfl (by rw [gFl_len]; decide) ?_
  generalize hset (hset h q _) a0 _ = h at w ⊢
  clear hq hbb
  have w := w.skip (by decide) (by decide) rfl rfl (by decide) rfl
  refine X_aload_n (pc := 575) 0 dX10_init_575 rfl rfl ?_
  refine X_bipush (pc := 576) (x := 60) dX10_init_576 (by decide) ?_
  refine X_new_int 60 (pc := 578) dX10_init_578 rfl (by decide) (Nat.le_of_ble_eq_true rfl) (Nat.le_of_ble_eq_true rfl) (fun q hq => ?_)
  obtain ⟨hbb, A, P, w, ha⟩ := w.oneW (c0 := Ai false 0 60 (fun _ => 0)) ha (by decide) (by decide) rfl rfl rfl (by decide) (fun A => rfl) hq
  refine X_putfield (pc := 580) dX10_init_580 fp_X10_516_11 (fun _ => rfl) hbb rfl rfl (by rw [gFl_len]; decide) ?_
  generalize hset (hset h q _) a0 _ = h at w ⊢
  clear hq hbb
  refine X_aload_n (pc := 583) 0 dX10_init_583 rfl rfl ?_
  refine X_bipush (pc := 584) (x := 60) dX10_init_584 (by decide) ?_
  refine X_new_boolean 60 (pc := 586) dX10_init_586 rfl (by decide) (Nat.le_of_ble_eq_true rfl) (Nat.le_of_ble_eq_true rfl) (fun q hq => ?_)
  obtain ⟨hbb, A, P, w, ha⟩ := w.oneW (c0 := Ai false 3 60 (fun _ => 0)) ha (by decide) (by decide) rfl rfl rfl (by decide) (fun A => rfl) hq
  refine X_putfield (pc := 588) dX10_init_588 fp_X10_519_11 (fun _ => rfl) hbb rfl rfl (by rw [gFl_len]; decide) ?_
  generalize hset (hset h q _) a0 _ = h at w ⊢
  clear hq hbb
  refine X_aload_n (pc := 591) 0 dX10_init_591 rfl rfl ?_
  refine X_sipush (pc := 592) (x := 5880) dX10_init_592 (by decide) ?_
  refine X_new_byte 5880 (pc := 595) dX10_init_595 rfl (by decide) (Nat.le_of_ble_eq_true rfl) (Nat.le_of_ble_eq_true rfl) (fun q hq => ?_)
  obtain ⟨hbb, A, P, w, ha⟩ := w.oneW (c0 := Ai false 2 5880 (fun _ => 0)) ha (by decide) (by decide) rfl rfl rfl (by decide) (fun A => rfl) hq
  refine X_putfield (pc := 597) dX10_init_597 fp_X10_522_11 (fun _ => rfl) hbb rfl rfl (by rw [gFl_len]; decide) ?_
  generalize hset (hset h q _) a0 _ = h at w ⊢
  clear hq hbb
  refine X_aload_n (pc := 600) 0 dX10_init_600 rfl rfl ?_
  refine X_bipush (pc := 601) (x := 60) dX10_init_601 (by decide) ?_
  refine X_bipush (pc := 603) (x := 64) dX10_init_603 (by decide) ?_
  refine X_multi 60 64 502 (pc := 605) dX10_init_605 q1374 (by decide) (by decide) (Nat.le_of_ble_eq_true rfl) (Nat.le_of_ble_eq_true rfl) (fun q hq => ?_)
  refine XX.arf (hgrid_ArE h q 60) ?_
  obtain ⟨hbb, A, P, w, ha⟩ := w.gridW (N := 60) (b := 600) ha (by decide) (Or.inr ⟨rfl, rfl, rfl⟩) (fun k hk => by unfold pd0; rw [beq_eq_false_iff_ne]; omega) hq
  refine X_putfield (pc := 609) dX10_init_609 fp_X10_525_11 (fun _ => rfl) hbb rfl rfl (by rw [gFl_len]; decide) ?_
  generalize hset (hgrid h q 60) a0 _ = h at w ⊢
  clear hq hbb
  have w := w.skip (by decide) (by decide) rfl rfl (by decide) rfl
  refine X_aload_n (pc := 612) 0 dX10_init_612 rfl rfl ?_
  refine X_sipush (pc := 613) (x := 4096) dX10_init_613 (by decide) ?_
  refine X_new_byte 4096 (pc := 616) dX10_init_616 rfl (by decide) (Nat.le_of_ble_eq_true rfl) (Nat.le_of_ble_eq_true rfl) (fun q hq => ?_)
  obtain ⟨hbb, A, P, w, ha⟩ := w.oneW (c0 := Ai false 2 4096 (fun _ => 0)) ha (by decide) (by decide) rfl rfl rfl (by decide) (fun A => rfl) hq
  refine X_putfield (pc := 618) dX10_init_618 fp_X10_528_11 (fun _ => rfl) hbb rfl rfl (by rw [gFl_len]; decide) ?_
  generalize hset (hset h q _) a0 _ = h at w ⊢
  clear hq hbb
  have w := w.skip (by decide) (by decide) rfl rfl (by decide) rfl
  refine X_aload_n (pc := 621) 0 dX10_init_621 rfl rfl ?_
  refine X_iconst (pc := 622) (x := (-1)) dX10_init_622 (by decide) ?_
  have hbb : h a0 = some (Ob 11 (gFl A 78)) := by rw [← ha]; exact w.a96 (by decide)
  refine X_putfield (pc := 623) dX10_init_623 fp_X10_531_11 (fun _ => rfl) hbb rfl rfl (by rw [gFl_len]; decide) ?_
  obtain ⟨P, w⟩ := w.fuse
  rw [ha] at w
  generalize hset h a0 _ = h at w ⊢
  clear hbb
  exact kk A P h w ha
set_option maxHeartbeats 4000000 in
theorem initW6 (w : PI pd0 A P 79 X h) (ha : A 96 = a0) (kk : ∀ A P h', PI pd0 A P 95 X h' → A 96 = a0 → XX g MX10_init ({ frames := 2, cells := 256, slots := 26510, locals := 46 } : Room) Q 171 24740 727 [(0, .ref a0)] [] h') : XX g MX10_init ({ frames := 2, cells := 256, slots := 26510, locals := 46 } : Room) Q 157 19827 626 [(0, .ref a0)] [] h := by
  have w := w.skip (by decide) (by decide) rfl rfl (by decide) rfl
  have w := w.skip (by decide) (by decide) rfl rfl (by decide) rfl
  refine X_aload_n (pc := 626) 0 dX10_init_626 rfl rfl ?_
  refine X_sipush (pc := 627) (x := 1208) dX10_init_627 (by decide) ?_
  refine X_new_byte 1208 (pc := 630) dX10_init_630 rfl (by decide) (Nat.le_of_ble_eq_true rfl) (Nat.le_of_ble_eq_true rfl) (fun q hq => ?_)
  obtain ⟨hbb, A, P, w, ha⟩ := w.oneW (c0 := Ai false 2 1208 (fun _ => 0)) ha (by decide) (by decide) rfl rfl rfl (by decide) (fun A => rfl) hq
  refine X_putfield (pc := 632) dX10_init_632 fp_X10_534_11 (fun _ => rfl) hbb rfl rfl (by rw [gFl_len]; decide) ?_
  generalize hset (hset h q _) a0 _ = h at w ⊢
  clear hq hbb
  have w := w.skip (by decide) (by decide) rfl rfl (by decide) rfl
  refine X_aload_n (pc := 635) 0 dX10_init_635 rfl rfl ?_
  refine X_sipush (pc := 636) (x := 2900) dX10_init_636 (by decide) ?_
  refine X_new_byte 2900 (pc := 639) dX10_init_639 rfl (by decide) (Nat.le_of_ble_eq_true rfl) (Nat.le_of_ble_eq_true rfl) (fun q hq => ?_)
  obtain ⟨hbb, A, P, w, ha⟩ := w.oneW (c0 := Ai false 2 2900 (fun _ => 0)) ha (by decide) (by decide) rfl rfl rfl (by decide) (fun A => rfl) hq
  refine X_putfield (pc := 641) dX10_init_641 fp_X10_537_11 (fun _ => rfl) hbb rfl rfl (by rw [gFl_len]; decide) ?_
  generalize hset (hset h q _) a0 _ = h at w ⊢
  clear hq hbb
  have w := w.skip (by decide) (by decide) rfl rfl (by decide) rfl
  refine X_aload_n (pc := 644) 0 dX10_init_644 rfl rfl ?_
  refine X_sipush (pc := 645) (x := 260) dX10_init_645 (by decide) ?_
  refine X_new_byte 260 (pc := 648) dX10_init_648 rfl (by decide) (Nat.le_of_ble_eq_true rfl) (Nat.le_of_ble_eq_true rfl) (fun q hq => ?_)
  obtain ⟨hbb, A, P, w, ha⟩ := w.oneW (c0 := Ai false 2 260 (fun _ => 0)) ha (by decide) (by decide) rfl rfl rfl (by decide) (fun A => rfl) hq
  refine X_putfield (pc := 650) dX10_init_650 fp_X10_540_11 (fun _ => rfl) hbb rfl rfl (by rw [gFl_len]; decide) ?_
  generalize hset (hset h q _) a0 _ = h at w ⊢
  clear hq hbb
  refine X_aload_n (pc := 653) 0 dX10_init_653 rfl rfl ?_
  refine X_sipush (pc := 654) (x := 260) dX10_init_654 (by decide) ?_
  refine X_new_byte 260 (pc := 657) dX10_init_657 rfl (by decide) (Nat.le_of_ble_eq_true rfl) (Nat.le_of_ble_eq_true rfl) (fun q hq => ?_)
  obtain ⟨hbb, A, P, w, ha⟩ := w.oneW (c0 := Ai false 2 260 (fun _ => 0)) ha (by decide) (by decide) rfl rfl rfl (by decide) (fun A => rfl) hq
  refine X_putfield (pc := 659) dX10_init_659 fp_X10_543_11 (fun _ => rfl) hbb rfl rfl (by rw [gFl_len]; decide) ?_
  generalize hset (hset h q _) a0 _ = h at w ⊢
  clear hq hbb
  refine X_aload_n (pc := 662) 0 dX10_init_662 rfl rfl ?_
  refine X_bipush (pc := 663) (x := 48) dX10_init_663 (by decide) ?_
  refine X_new_byte 48 (pc := 665) dX10_init_665 rfl (by decide) (Nat.le_of_ble_eq_true rfl) (Nat.le_of_ble_eq_true rfl) (fun q hq => ?_)
  obtain ⟨hbb, A, P, w, ha⟩ := w.oneW (c0 := Ai false 2 48 (fun _ => 0)) ha (by decide) (by decide) rfl rfl rfl (by decide) (fun A => rfl) hq
  refine X_putfield (pc := 667) dX10_init_667 fp_X10_546_11 (fun _ => rfl) hbb rfl rfl (by rw [gFl_len]; decide) ?_
  generalize hset (hset h q _) a0 _ = h at w ⊢
  clear hq hbb
  refine X_aload_n (pc := 670) 0 dX10_init_670 rfl rfl ?_
  refine X_bipush (pc := 671) (x := 64) dX10_init_671 (by decide) ?_
  refine X_new_int 64 (pc := 673) dX10_init_673 rfl (by decide) (Nat.le_of_ble_eq_true rfl) (Nat.le_of_ble_eq_true rfl) (fun q hq => ?_)
  obtain ⟨hbb, A, P, w, ha⟩ := w.oneW (c0 := Ai false 0 64 (fun _ => 0)) ha (by decide) (by decide) rfl rfl rfl (by decide) (fun A => rfl) hq
  refine X_putfield (pc := 675) dX10_init_675 fp_X10_549_11 (fun _ => rfl) hbb rfl rfl (by rw [gFl_len]; decide) ?_
  generalize hset (hset h q _) a0 _ = h at w ⊢
  clear hq hbb
  refine X_aload_n (pc := 678) 0 dX10_init_678 rfl rfl ?_
  refine X_bipush (pc := 679) (x := 64) dX10_init_679 (by decide) ?_
  refine X_new_int 64 (pc := 681) dX10_init_681 rfl (by decide) (Nat.le_of_ble_eq_true rfl) (Nat.le_of_ble_eq_true rfl) (fun q hq => ?_)
  obtain ⟨hbb, A, P, w, ha⟩ := w.oneW (c0 := Ai false 0 64 (fun _ => 0)) ha (by decide) (by decide) rfl rfl rfl (by decide) (fun A => rfl) hq
  refine X_putfield (pc := 683) dX10_init_683 fp_X10_552_11 (fun _ => rfl) hbb rfl rfl (by rw [gFl_len]; decide) ?_
  generalize hset (hset h q _) a0 _ = h at w ⊢
  clear hq hbb
  refine X_aload_n (pc := 686) 0 dX10_init_686 rfl rfl ?_
  refine X_bipush (pc := 687) (x := 64) dX10_init_687 (by decide) ?_
  refine X_new_int 64 (pc := 689) dX10_init_689 rfl (by decide) (Nat.le_of_ble_eq_true rfl) (Nat.le_of_ble_eq_true rfl) (fun q hq => ?_)
  obtain ⟨hbb, A, P, w, ha⟩ := w.oneW (c0 := Ai false 0 64 (fun _ => 0)) ha (by decide) (by decide) rfl rfl rfl (by decide) (fun A => rfl) hq
  refine X_putfield (pc := 691) dX10_init_691 fp_X10_555_11 (fun _ => rfl) hbb rfl rfl (by rw [gFl_len]; decide) ?_
  generalize hset (hset h q _) a0 _ = h at w ⊢
  clear hq hbb
  refine X_aload_n (pc := 694) 0 dX10_init_694 rfl rfl ?_
  refine X_iconst (pc := 695) (x := 1) dX10_init_695 (by decide) ?_
  refine X_new_int 1 (pc := 696) dX10_init_696 rfl (by decide) (Nat.le_of_ble_eq_true rfl) (Nat.le_of_ble_eq_true rfl) (fun q hq => ?_)
  obtain ⟨hbb, A, P, w, ha⟩ := w.oneW (c0 := Ai false 0 1 (fun _ => 0)) ha (by decide) (by decide) rfl rfl rfl (by decide) (fun A => rfl) hq
  refine X_putfield (pc := 698) dX10_init_698 fp_X10_558_11 (fun _ => rfl) hbb rfl rfl (by rw [gFl_len]; decide) ?_
  generalize hset (hset h q _) a0 _ = h at w ⊢
  clear hq hbb
  refine X_aload_n (pc := 701) 0 dX10_init_701 rfl rfl ?_
  refine X_iconst (pc := 702) (x := 5) dX10_init_702 (by decide) ?_
  refine X_new_int 5 (pc := 703) dX10_init_703 rfl (by decide) (Nat.le_of_ble_eq_true rfl) (Nat.le_of_ble_eq_true rfl) (fun q hq => ?_)
  obtain ⟨hbb, A, P, w, ha⟩ := w.oneW (c0 := Ai false 0 5 (fun _ => 0)) ha (by decide) (by decide) rfl rfl rfl (by decide) (fun A => rfl) hq
  refine X_putfield (pc := 705) dX10_init_705 fp_X10_561_11 (fun _ => rfl) hbb rfl rfl (by rw [gFl_len]; decide) ?_
  generalize hset (hset h q _) a0 _ = h at w ⊢
  clear hq hbb
  refine X_aload_n (pc := 708) 0 dX10_init_708 rfl rfl ?_
  refine X_new tyX12 (ci := 13) (fs := [.null, .null, .int 0]) (pc := 709) dX10_init_709 rfl in_X12 tyX12_ok q1354 q1355 q118 dfX12 (Nat.le_of_ble_eq_true rfl) (Nat.le_of_ble_eq_true rfl) (fun b hb => ?_)
  refine X_dup (pc := 712) dX10_init_712 rfl ?_
  refine X_iqv (pc := 713) _ dX10_init_713 cin_X10_491 rfl (spotInit_ok g (hset_self _ _ _)) nX12_init (Nat.le_of_ble_eq_true rfl) (Nat.le_of_ble_eq_true rfl) (Nat.le_of_ble_eq_true rfl) (Nat.le_of_ble_eq_true rfl) (fun h2 q2 => ?_)
  obtain ⟨x, y, hx, hy, exy, rfl⟩ := q2
  obtain ⟨hbb, A, P, w, ha⟩ := w.spotW ha (s := 8) (by decide) rfl (by decide) rfl rfl rfl rfl hb hx hy exy
  refine X_putfield (pc := 716) dX10_init_716 fp_X10_564_11 (fun _ => rfl) hbb rfl rfl (by rw [gFl_len]; decide) ?_
  generalize hset (hset (hset (hset (hset h b _) x _) y _) b _) a0 _ = h at w ⊢
  clear hb hx hy exy hbb
  refine X_aload_n (pc := 719) 0 dX10_init_719 rfl rfl ?_
  refine X_bipush (pc := 720) (x := 12) dX10_init_720 (by decide) ?_
  refine X_new_int 12 (pc := 722) dX10_init_722 rfl (by decide) (Nat.le_of_ble_eq_true rfl) (Nat.le_of_ble_eq_true rfl) (fun q hq => ?_)
  obtain ⟨hbb, A, P, w, ha⟩ := w.oneW (c0 := Ai false 0 12 (fun _ => 0)) ha (by decide) (by decide) rfl rfl rfl (by decide) (fun A => rfl) hq
  refine X_putfield (pc := 724) dX10_init_724 fp_X10_567_11 (fun _ => rfl) hbb rfl rfl (by rw [gFl_len]; decide) ?_
  generalize hset (hset h q _) a0 _ = h at w ⊢
  clear hq hbb
  exact kk A P h w ha
set_option maxHeartbeats 4000000 in
theorem initW7 (w : PI pd0 A P 95 X h) (ha : A 96 = a0) (kk : ∀ A P h', PI pd0 A P 96 X h' → A 96 = a0 → XX g MX10_init ({ frames := 2, cells := 256, slots := 26510, locals := 46 } : Room) Q 172 25124 736 [(0, .ref a0)] [] h') : XX g MX10_init ({ frames := 2, cells := 256, slots := 26510, locals := 46 } : Room) Q 171 24740 727 [(0, .ref a0)] [] h := by
  refine X_aload_n (pc := 727) 0 dX10_init_727 rfl rfl ?_
  refine X_sipush (pc := 728) (x := 384) dX10_init_728 (by decide) ?_
  refine X_new_byte 384 (pc := 731) dX10_init_731 rfl (by decide) (Nat.le_of_ble_eq_true rfl) (Nat.le_of_ble_eq_true rfl) (fun q hq => ?_)
  obtain ⟨hbb, A, P, w, ha⟩ := w.oneW (c0 := Ai false 2 384 (fun _ => 0)) ha (by decide) (by decide) rfl rfl rfl (by decide) (fun A => rfl) hq
  refine X_putfield (pc := 733) dX10_init_733 fp_X10_570_11 (fun _ => rfl) hbb rfl rfl (by rw [gFl_len]; decide) ?_
  generalize hset (hset h q _) a0 _ = h at w ⊢
  clear hq hbb
  exact kk A P h w ha
theorem initW (w : PI pd0 A P 1 X h) (ha : A 96 = a0) (kk : ∀ A P h', PI pd0 A P 96 X h' → A 96 = a0 → XX g MX10_init ({ frames := 2, cells := 256, slots := 26510, locals := 46 } : Room) Q 172 25124 736 [(0, .ref a0)] [] h') : XX g MX10_init ({ frames := 2, cells := 256, slots := 26510, locals := 46 } : Room) Q 0 0 4 [(0, .ref a0)] [] h :=
  (fun A P h w ha => initW0 w ha (fun A P h w ha => initW1 w ha (fun A P h w ha => initW2 w ha (fun A P h w ha => initW3 w ha (fun A P h w ha => initW4 w ha (fun A P h w ha => initW5 w ha (fun A P h w ha => initW6 w ha (fun A P h w ha => initW7 w ha (kk))))))))) A P h w ha
end MIw
