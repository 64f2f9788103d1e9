set_option maxRecDepth 100000
theorem iM1 (m p : Nat) : nI m + nI (p + 2) - 1 = nI (m + (p + 1)) := by rw [nI_add, show m + (p + 2) = m + (p + 1) + 1 by omega, nI_pred]
theorem iM2 (m p : Nat) : nI m + nI (p + 2) - 2 = nI (m + p) := by
  rw [nI_add]
  exact pk_sub (a := m + (p + 2)) (b := 2) (by omega)
theorem iM3 (p : Nat) : nI (p + 2) - 2 = nI p := pk_sub (a := p + 2) (b := 2) (by omega)
theorem pair_lt {a b : Nat} (ha : a < 2 ^ 32) (hb : b < 2 ^ 32) : a * 2 ^ 32 + b < 2 ^ 64 := by omega
theorem pair_lt0 {a : Nat} (ha : a < 2 ^ 32) : a * 2 ^ 32 < 2 ^ 64 := by omega
theorem lt63 {a : Nat} (ha : a < 2 ^ 32) : a < 2 ^ 63 := by omega
theorem pair_q {a b v : Nat} (h : a < v) (hb : b < 2 ^ 32) : (a * 2 ^ 32 + b) / v < 2 ^ 32 := by
  apply Nat.div_lt_of_lt_mul
  have : (a + 1) * 2 ^ 32 ≤ v * 2 ^ 32 := Nat.mul_le_mul_right _ h
  rw [Nat.add_mul] at this
  omega
theorem pair_r {a v : Nat} (h0 : 0 < v) (hv : v < 2 ^ 32) : a % v < 2 ^ 34 := by
  have := Nat.mod_lt a h0
  omega
theorem pair_s {a b : Nat} (ha : a < 2 ^ 32) (hb : b < 2 ^ 32) : a + b < 2 ^ 34 := by omega
theorem pair_e {a b : Nat} : a * 2 ^ 32 + b = 4294967295 * a + (b + a) := by omega
set_option maxHeartbeats 4000000 in
theorem mrest_main (g : GX) {h : AH} {M0 M am ah aw to p s many Nh no mv : Nat} {fl : List Value} {fh fw fo : Nat → Int32} (hO : h M0 = some (Ob 11 fl)) (hM : h M = some (Ob 12 [.ref am, .ref ah, .int (nI (p + 2)), .int (nI s)])) (hh : h ah = some (Ai false 0 Nh fh)) (hw : h aw = some (Ai false 0 130 fw)) (ho : h to = some (Ai false 0 no fo)) (f1 : fl[1]? = some (.ref aw))
    (hne : ah ≠ aw) (hto : to ≠ aw) (hn : p + 2 ≤ Nh) (hNh : Nh < 2 ^ 31) (hmany : many < 130) (htop : 2 ^ 31 ≤ u32 (fh (p + 1))) (hHl : V (p + 2) fh < 2 ^ (32 * (p + 2))) (hH0 : 0 < V (p + 2) fh) {Post : Outcome → AH → Prop} 
    (lastl : ∀ (f : Nat → Int32) (a6 : Int64), DvI (p + 2) (V (p + 2) fh) (V many fw * 2 ^ s) 0 f → f (p + 2) = 0 → XX g MX10_rest ({ frames := 2, cells := 0, slots := 0, locals := 49 } : Room) Post 0 0 310 [(6, .long a6), (4, .int (nI (p + 2))), (5, .int (nI s)), (0, .ref M0), (1, .ref M), (2, .int (nI many)), (3, .ref to)] [] (hset h aw (Ai false 0 130 f))) :
    ∀ (m : Nat), m + (p + 2) ≤ many + 1 → ∀ (f : Nat → Int32), DvI (p + 2) (V (p + 2) fh) (V many fw * 2 ^ s) m f → (m = 0 → f (p + 2) = 0) →
      XX g MX10_rest ({ frames := 2, cells := 0, slots := 0, locals := 49 } : Room) Post 0 0 124 [(8, .int (nI m - 1)), (6, .long (lN (u32 (fh (p + 1))))), (4, .int (nI (p + 2))), (5, .int (nI s)), (0, .ref M0), (1, .ref M), (2, .int (nI many)), (3, .ref to)] [] (hset h aw (Ai false 0 130 f)) := by
  have n1 : M0 ≠ aw := ne_of hO hw (fun e => by cases e)
  have n2 : M ≠ aw := ne_of hM hw (fun e => by cases e)
  have n3 : M0 ≠ to := ne_of hO ho (fun e => by cases e)
  have out : ∀ f, hset h aw (Ai false 0 130 f) M0 = some (Ob 11 fl) ∧ hset h aw (Ai false 0 130 f) M = some (Ob 12 [.ref am, .ref ah, .int (nI (p + 2)), .int (nI s)]) ∧ hset h aw (Ai false 0 130 f) ah = some (Ai false 0 Nh fh) ∧ hset h aw (Ai false 0 130 f) to = some (Ai false 0 no fo) := fun f =>
    ⟨by rw [hset_ne n1]; exact hO, by rw [hset_ne n2]; exact hM, by rw [hset_ne hne]; exact hh, by rw [hset_ne hto]; exact ho⟩
  have ht := V_top2 p fh
  have hlh := V_lt p fh
  have hPp : 0 < 2 ^ (32 * p) := Nat.two_pow_pos _
  have hv1 := u32_lt (fh (p + 1))
  have hv2 := u32_lt (fh p)
  have hv10 : 0 < u32 (fh (p + 1)) := by omega
  intro m
  induction m with
  | zero =>
    intro _ f hD hz
    refine X_iload (pc := 124) 0 dX10_rest_124 rfl ?_
    refine X_if_lt (pc := 126) 310 dX10_rest_126 (by decide) (fun c_126 => ?_) (fun c_126 => ?_)
    · refine XX.pick (L' := [(6, .long _), (4, .int _), (5, .int _), (0, .ref _), (1, .ref _), (2, .int _), (3, .ref _)]) [1, 2, 3, 4, 5, 6, 7] rfl ?_
      exact lastl f _ hD (hz rfl)
    · exact absurd (show nI 0 - 1 < 0 by decide) c_126
  | succ m ih =>
    intro hm f hD _
    obtain ⟨o1, o2, o3, o4⟩ := out f
    have c0 : (nI (m + (p + 2))).toNatClampNeg = m + (p + 2) := nI_clamp (by omega)
    have c1 : (nI (m + (p + 1))).toNatClampNeg = m + (p + 1) := nI_clamp (by omega)
    have c2 : (nI (m + p)).toNatClampNeg = m + p := nI_clamp (by omega)
    have b0 : vp_in (nI (m + (p + 2))) 130 := vp_in_nI (by omega) (by omega)
    have b1 : vp_in (nI (m + (p + 1))) 130 := vp_in_nI (by omega) (by omega)
    have b2 : vp_in (nI (m + p)) 130 := vp_in_nI (by omega) (by omega)
    have i1 := iM1 m p
    have i2 := iM2 m p
    have i3 := iM3 p
    have cp : (nI p).toNatClampNeg = p := nI_clamp (by omega)
    have bp : vp_in (nI p) Nh := vp_in_nI (by omega) (by omega)
    have bm31 : m < 2 ^ 31 := by omega
    have bj : m + (p + 2) < 130 := by omega
    have bih : m + (p + 2) ≤ many + 1 := by omega
    have hWlt : V (p + 2 + 1) (sh m f) < 2 ^ 32 * V (p + 2) fh := by
      rw [V_low]
      have h1 := hD.2
      have h2 := u32_lt (f m)
      omega
    have hW3 := V_top3 p (sh m f)
    have hlw := V_lt p (sh m f)
    have x0 : sh m f (p + 2) = f (m + (p + 2)) := rfl
    have x1 : sh m f (p + 1) = f (m + (p + 1)) := rfl
    have x2 : sh m f p = f (m + p) := rfl
    rw [x0, x1, x2] at hW3
    have l0 := u32_lt (f (m + (p + 2)))
    have l1 := u32_lt (f (m + (p + 1)))
    have l2 := u32_lt (f (m + p))
    have hu0 := kn_0 hPp hlh hv2 (by rw [← hW3, ← ht]; exact hWlt)
    -- the guess is good
    have good : ∀ (q : Nat), q < 2 ^ 32 → (q = V (p + 2 + 1) (sh m f) / V (p + 2) fh ∨ q = V (p + 2 + 1) (sh m f) / V (p + 2) fh + 1) → ∀ (a11 : Int64),
        XX g MX10_rest ({ frames := 2, cells := 0, slots := 0, locals := 49 } : Room) Post 0 0 295 [(11, .long a11), (9, .long (lN q)), (8, .int (nI m)), (6, .long (lN (u32 (fh (p + 1))))), (4, .int (nI (p + 2))), (5, .int (nI s)), (0, .ref M0), (1, .ref M), (2, .int (nI many)), (3, .ref to)] [] (hset h aw (Ai false 0 130 f)) := by
      intro q hq hqt a11
      refine X_aload_n (pc := 295) 6 dX10_rest_295 rfl rfl ?_
      refine X_aload_n (pc := 296) 7 dX10_rest_296 rfl rfl ?_
      refine X_iload (pc := 297) 2 dX10_rest_297 rfl ?_
      refine X_lload (pc := 299) 1 dX10_rest_299 rfl ?_
      refine X_ivv (pc := 301) _ dX10_rest_301 cv_X10_57_11 o1 rfl (mtakes_ok g o1 o2 o3 (hset_self _ _ _) f1 hne hn hNh bj hq hH0 hqt) nX10_takes (Nat.le_of_ble_eq_true rfl) (Nat.le_of_ble_eq_true rfl) (Nat.le_of_ble_eq_true rfl) (Nat.le_of_ble_eq_true rfl) (fun h1 q1 => ?_)
      obtain ⟨f', ho', hv', rfl⟩ := q1
      refine XX.eqh (hset_hset _ _ _ _) ?_
      refine X_iinc (pc := 304) (L' := [(8, .int (_ + (-1))), (11, .long _), (9, .long _), (6, .long _), (4, .int _), (5, .int _), (0, .ref _), (1, .ref _), (2, .int _), (3, .ref _)]) 2 dX10_rest_304 rfl rfl (Nat.le_of_ble_eq_true rfl) rfl ?_
      refine X_goto (pc := 307) 124 dX10_rest_307 (by decide) ?_
      rw [m1]
      refine XX.pick (L' := [(8, .int _), (6, .long _), (4, .int _), (5, .int _), (0, .ref _), (1, .ref _), (2, .int _), (3, .ref _)]) [0, 3, 4, 5, 6, 7, 8, 9] rfl ?_
      have hD' := hD.step hHl ho' hv' hH0
      refine ih bih f' hD' (fun e => ?_)
      subst e
      apply u32_inj
      have hlt : V (p + 2 + 1) (sh 0 f') < V (p + 2) fh := by rw [hv']; exact Nat.mod_lt _ hH0
      rcases Nat.eq_zero_or_pos (u32 (f' (p + 2))) with q0 | q0
      · rw [q0]; rfl
      · exfalso
        have e : V (p + 2 + 1) (sh 0 f') = V (p + 2) (sh 0 f') + u32 (f' (0 + (p + 2))) * 2 ^ (32 * (p + 2)) := rfl
        rw [Nat.zero_add] at e
        have q1 := Nat.le_mul_of_pos_left (2 ^ (32 * (p + 2))) q0
        exact absurd hHl (Nat.not_lt.mpr (Nat.le_of_lt (Nat.lt_of_le_of_lt q1 (Nat.lt_of_le_of_lt (by rw [e]; exact Nat.le_add_left _ _) hlt))))
    have wh := mrest_wh g (many := many) (to := to) (pr := u32 (f (m + (p + 2))) * 2 ^ 32 + u32 (f (m + (p + 1)))) o1 o2 o3 (hset_self _ _ _) f1 i2 i3 cp c2 bp b2 hv1
      (fun q r a b c d => by rw [hW3, ht]; rw [hW3, ht] at d; exact kn_3 hPp hlh a htop b c d) (fun q r a b => by rw [hW3, ht]; exact kn_s (lh := V p fh) hlw a b) good
    rw [nI_pred]
    refine X_iload (pc := 124) 0 dX10_rest_124 rfl ?_
    refine X_if_lt (pc := 126) 310 dX10_rest_126 (by decide) (fun c_126 => ?_) (fun c_126 => ?_)
    · exact absurd c_126 (nI_pos bm31)
    · skip
      refine X_aload_n (pc := 129) 4 dX10_rest_129 rfl rfl ?_
      refine X_getfield (pc := 130) dX10_rest_130 fg_X10_36_11 o1 f1 ?_
      refine X_iload (pc := 133) 0 dX10_rest_133 rfl ?_
      refine X_iload (pc := 135) 2 dX10_rest_135 rfl ?_
      refine X_iadd (pc := 137) dX10_rest_137 ?_
      rw [nI_add]
      refine X_iaload (pc := 138) dX10_rest_138 (hset_self _ _ _) b0 ?_
      rw [c0]
      refine X_isl (pc := 139) _ dX10_rest_139 cs_X10_9 rfl (mu_ok g _ _) nX10_u (Nat.le_of_ble_eq_true rfl) (Nat.le_of_ble_eq_true rfl) (Nat.le_of_ble_eq_true rfl) (Nat.le_of_ble_eq_true rfl) (fun r1 h1 q1 => ?_)
      obtain ⟨rfl, rfl⟩ := q1
      refine X_lload (pc := 142) 1 dX10_rest_142 rfl ?_
      refine X_lcmp (pc := 144) dX10_rest_144 ?_
      refine X_if_ne (pc := 145) 176 dX10_rest_145 (by decide) (fun c_145 => ?_) (fun c_145 => ?_)
      · have hne1 : u32 (f (m + (p + 2))) ≠ u32 (fh (p + 1)) := fun z => c_145 ((lg_cmp_eq _ _).mpr (by rw [z]))
        have hlt : u32 (f (m + (p + 2))) < u32 (fh (p + 1)) := Nat.lt_of_le_of_ne hu0 hne1
        have hpair : u32 (f (m + (p + 2))) * 2 ^ 32 + u32 (f (m + (p + 1))) < 2 ^ 64 := pair_lt l0 l1
        refine X_aload_n (pc := 176) 4 dX10_rest_176 rfl rfl ?_
        refine X_getfield (pc := 177) dX10_rest_177 fg_X10_36_11 o1 f1 ?_
        refine X_iload (pc := 180) 0 dX10_rest_180 rfl ?_
        refine X_iload (pc := 182) 2 dX10_rest_182 rfl ?_
        refine X_iadd (pc := 184) dX10_rest_184 ?_
        rw [nI_add]
        refine X_iaload (pc := 185) dX10_rest_185 (hset_self _ _ _) b0 ?_
        rw [c0]
        refine X_isl (pc := 186) _ dX10_rest_186 cs_X10_9 rfl (mu_ok g _ _) nX10_u (Nat.le_of_ble_eq_true rfl) (Nat.le_of_ble_eq_true rfl) (Nat.le_of_ble_eq_true rfl) (Nat.le_of_ble_eq_true rfl) (fun r1 h1 q1 => ?_)
        obtain ⟨rfl, rfl⟩ := q1
        refine X_bipush (pc := 189) (x := 32) dX10_rest_189 (by decide) ?_
        refine X_lshl (pc := 191) dX10_rest_191 ?_
        rw [lN_shl (k := 32) _ (by decide) (pair_lt0 l0)]
        refine X_aload_n (pc := 192) 4 dX10_rest_192 rfl rfl ?_
        refine X_getfield (pc := 193) dX10_rest_193 fg_X10_36_11 o1 f1 ?_
        refine X_iload (pc := 196) 0 dX10_rest_196 rfl ?_
        refine X_iload (pc := 198) 2 dX10_rest_198 rfl ?_
        refine X_iadd (pc := 200) dX10_rest_200 ?_
        refine X_iconst (pc := 201) (x := 1) dX10_rest_201 (by decide) ?_
        refine X_isub (pc := 202) dX10_rest_202 ?_
        rw [i1]
        refine X_iaload (pc := 203) dX10_rest_203 (hset_self _ _ _) b1 ?_
        rw [c1]
        refine X_isl (pc := 204) _ dX10_rest_204 cs_X10_9 rfl (mu_ok g _ _) nX10_u (Nat.le_of_ble_eq_true rfl) (Nat.le_of_ble_eq_true rfl) (Nat.le_of_ble_eq_true rfl) (Nat.le_of_ble_eq_true rfl) (fun r1 h1 q1 => ?_)
        obtain ⟨rfl, rfl⟩ := q1
        refine X_lor (pc := 207) dX10_rest_207 ?_
        rw [lN_or l0 l1]
        refine X_lstore (pc := 208) (L' := [(13, .long _), (8, .int _), (6, .long _), (4, .int _), (5, .int _), (0, .ref _), (1, .ref _), (2, .int _), (3, .ref _)]) dX10_rest_208 (Nat.le_of_ble_eq_true rfl) rfl ?_
        refine X_lload (pc := 210) 0 dX10_rest_210 rfl ?_
        refine X_lload (pc := 212) 2 dX10_rest_212 rfl ?_
        refine X_isl (pc := 214) _ dX10_rest_214 cs_X10_42 rfl (ldivU_ok g _ hpair hv10 hv1) nJ8_divideUnsigned (Nat.le_of_ble_eq_true rfl) (Nat.le_of_ble_eq_true rfl) (Nat.le_of_ble_eq_true rfl) (Nat.le_of_ble_eq_true rfl) (fun r1 h1 q1 => ?_)
        obtain ⟨rfl, rfl⟩ := q1
        refine X_lstore (pc := 217) (L' := [(9, .long _), (13, .long _), (8, .int _), (6, .long _), (4, .int _), (5, .int _), (0, .ref _), (1, .ref _), (2, .int _), (3, .ref _)]) dX10_rest_217 (Nat.le_of_ble_eq_true rfl) rfl ?_
        refine X_lload (pc := 219) 1 dX10_rest_219 rfl ?_
        refine X_lload (pc := 221) 3 dX10_rest_221 rfl ?_
        refine X_isl (pc := 223) _ dX10_rest_223 cs_X10_48 rfl (lremU_ok g _ hpair hv10 hv1) nJ8_remainderUnsigned (Nat.le_of_ble_eq_true rfl) (Nat.le_of_ble_eq_true rfl) (Nat.le_of_ble_eq_true rfl) (Nat.le_of_ble_eq_true rfl) (fun r1 h1 q1 => ?_)
        obtain ⟨rfl, rfl⟩ := q1
        refine X_lstore (pc := 226) (L' := [(11, .long _), (9, .long _), (13, .long _), (8, .int _), (6, .long _), (4, .int _), (5, .int _), (0, .ref _), (1, .ref _), (2, .int _), (3, .ref _)]) dX10_rest_226 (Nat.le_of_ble_eq_true rfl) rfl ?_
        refine XX.pick (L' := [(11, .long _), (9, .long _), (8, .int _), (6, .long _), (4, .int _), (5, .int _), (0, .ref _), (1, .ref _), (2, .int _), (3, .ref _)]) [0, 1, 3, 4, 5, 6, 7, 8, 9, 10] rfl ?_
        refine wh _ _ (pair_q hlt l1) (pair_r hv10 hv1) ?_ ?_
        · have := Nat.div_add_mod (u32 (f (m + (p + 2))) * 2 ^ 32 + u32 (f (m + (p + 1)))) (u32 (fh (p + 1)))
          rw [Nat.mul_comm] at this
          exact this.symm
        · rw [hW3, ht]
          exact kn_1 hv10 hlw l2
      · have heq : u32 (f (m + (p + 2))) = u32 (fh (p + 1)) := by
          have := (lg_cmp_eq _ _).mp c_145
          exact (pk_lEQ (lt63 l0) (lt63 hv1)).mp this
        refine X_ldc2 (pc := 148) dX10_rest_148 q1402 ?_
        refine X_lstore (pc := 151) (L' := [(9, .long _), (8, .int _), (6, .long _), (4, .int _), (5, .int _), (0, .ref _), (1, .ref _), (2, .int _), (3, .ref _)]) dX10_rest_151 (Nat.le_of_ble_eq_true rfl) rfl ?_
        refine X_aload_n (pc := 153) 5 dX10_rest_153 rfl rfl ?_
        refine X_getfield (pc := 154) dX10_rest_154 fg_X10_36_11 o1 f1 ?_
        refine X_iload (pc := 157) 1 dX10_rest_157 rfl ?_
        refine X_iload (pc := 159) 3 dX10_rest_159 rfl ?_
        refine X_iadd (pc := 161) dX10_rest_161 ?_
        refine X_iconst (pc := 162) (x := 1) dX10_rest_162 (by decide) ?_
        refine X_isub (pc := 163) dX10_rest_163 ?_
        rw [i1]
        refine X_iaload (pc := 164) dX10_rest_164 (hset_self _ _ _) b1 ?_
        rw [c1]
        refine X_isl (pc := 165) _ dX10_rest_165 cs_X10_9 rfl (mu_ok g _ _) nX10_u (Nat.le_of_ble_eq_true rfl) (Nat.le_of_ble_eq_true rfl) (Nat.le_of_ble_eq_true rfl) (Nat.le_of_ble_eq_true rfl) (fun r1 h1 q1 => ?_)
        obtain ⟨rfl, rfl⟩ := q1
        refine X_lload (pc := 168) 2 dX10_rest_168 rfl ?_
        refine X_ladd (pc := 170) dX10_rest_170 ?_
        rw [lN_add]
        refine X_lstore (pc := 171) (L' := [(11, .long _), (9, .long _), (8, .int _), (6, .long _), (4, .int _), (5, .int _), (0, .ref _), (1, .ref _), (2, .int _), (3, .ref _)]) dX10_rest_171 (Nat.le_of_ble_eq_true rfl) rfl ?_
        refine X_goto (pc := 173) 228 dX10_rest_173 (by decide) ?_
        refine XX.pick (L' := [(11, .long _), (9, .long _), (8, .int _), (6, .long _), (4, .int _), (5, .int _), (0, .ref _), (1, .ref _), (2, .int _), (3, .ref _)]) [0, 1, 2, 3, 4, 5, 6, 7, 8, 9] rfl ?_
        rw [show (4294967295 : Int64) = lN 4294967295 from rfl]
        refine wh 4294967295 _ (by decide) (pair_s l1 hv1) ?_ ?_
        · rw [heq]
          exact pair_e
        · exact hWlt
