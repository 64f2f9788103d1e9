set_option maxRecDepth 100000
/-! the reference: the modulus goes so often from the wide row -/
theorem land32 {n : Nat} (h : n < 2 ^ 64) : lN n &&& 4294967295 = lN (n % 2 ^ 32) := by
  apply u64_inj
  rw [u64_lN (by omega)]
  show (lN n &&& 4294967295).toBitVec.toNat = _
  rw [Int64.toBitVec_and, BitVec.toNat_and]
  have h1 : (4294967295 : Int64).toBitVec.toNat = 2 ^ 32 - 1 := by decide
  rw [h1, Nat.and_two_pow_sub_one_eq_mod]
  show u64 (lN n) % _ = _
  rw [u64_lN h]
theorem take_step {w lo : Nat} {c d c' : Int64} (hw : w < 2 ^ 32) (hlo : lo < 2 ^ 32) (hc : c = 0 ∨ c = -1) (ed : d = c + (lN w - lN lo)) (ec : c' = d >>> ((32 : Int32).toInt64 &&& 63)) :
    (c' = 0 ∨ c' = -1) ∧ (u32 d.toInt32 : Int) = c.toInt + w - lo - c'.toInt * 2 ^ 32 := by
  have hc2 : c.toInt = 0 ∨ c.toInt = -1 := by rcases hc with rfl | rfl; exact Or.inl rfl; exact Or.inr rfl
  have e1 : (lN w - lN lo).toInt = (w : Int) - lo := by rw [l_sub (by rw [pk_lT (by omega), pk_lT (by omega)]; omega) (by rw [pk_lT (by omega), pk_lT (by omega)]; omega), pk_lT (by omega), pk_lT (by omega)]
  have e2 : d.toInt = c.toInt + ((w : Int) - lo) := by rw [ed, l_add (by omega) (by omega), e1]
  have e3 : c'.toInt = d.toInt / 2 ^ 32 := by rw [ec, l_hi]
  have e4 := l_lo d
  have e5 : c'.toInt = 0 ∨ c'.toInt = -1 := by omega
  refine ⟨?_, by omega⟩
  rcases e5 with e | e
  · exact Or.inl (Int64.toInt_inj.mp (by rw [e]; rfl))
  · exact Or.inr (Int64.toInt_inj.mp (by rw [e]; rfl))
theorem take_V {Vf Vw Vh K q carry carry' c c' u w hk lo : Int} (hv : Vf = Vw - q * Vh + (carry - c) * K) (hu : u = c + w - lo - c' * 2 ^ 32) (hlo : lo + carry' * 2 ^ 32 = carry + q * hk) : Vf + u * K = (Vw + w * K) - q * (Vh + hk * K) + (carry' - c') * (2 ^ 32 * K) := by
  have e1 : lo = carry + q * hk - carry' * 2 ^ 32 := by omega
  subst e1
  subst hu
  subst hv
  grind
theorem take_end {Wd H q qt Vf Nn : Nat} {top : Int} (h0 : 0 < H) (hH : H < Nn) (hW : Wd < 2 ^ 32 * Nn) (hV : Vf < 2 ^ 32 * Nn) (hqt : qt = Wd / H) (hq : q = qt ∨ q = qt + 1) (e : (Vf : Int) = Wd - q * H - top * (2 ^ 32 * Nn)) :
    (top = 0 ∧ Vf = Wd % H) ∨ (top = -1 ∧ (Vf : Int) = (Wd % H : Nat) - H + 2 ^ 32 * Nn) := by
  have h1 := Nat.div_add_mod Wd H
  have h2 := Nat.mod_lt Wd h0
  rw [← hqt] at h1
  generalize hm : Wd % H = m at *
  have hNn : (0 : Int) < 2 ^ 32 * Nn := by omega
  rcases hq with rfl | rfl
  · left
    have e2 : (Wd : Int) - q * H = m := by rw [← h1]; push_cast; generalize (q : Int) = a; generalize (H : Int) = b; grind
    rw [e2] at e
    have ht : top = 0 := by
      rcases Int.lt_trichotomy top 0 with t | t | t
      · exfalso
        have : top * (2 ^ 32 * (Nn : Int)) ≤ (-1) * (2 ^ 32 * (Nn : Int)) := Int.mul_le_mul_of_nonneg_right (by omega) (by omega)
        omega
      · exact t
      · exfalso
        have : 1 * (2 ^ 32 * (Nn : Int)) ≤ top * (2 ^ 32 * (Nn : Int)) := Int.mul_le_mul_of_nonneg_right (by omega) (by omega)
        omega
    subst ht
    exact ⟨rfl, by omega⟩
  · right
    have e2 : (Wd : Int) - ((qt + 1 : Nat) : Int) * H = m - H := by rw [← h1]; push_cast; generalize (qt : Int) = a; generalize (H : Int) = b; grind
    rw [e2] at e
    have ht : top = -1 := by
      rcases Int.lt_trichotomy top (-1) with t | t | t
      · exfalso
        have : top * (2 ^ 32 * (Nn : Int)) ≤ (-2) * (2 ^ 32 * (Nn : Int)) := Int.mul_le_mul_of_nonneg_right (by omega) (by omega)
        omega
      · exact t
      · exfalso
        have : 0 * (2 ^ 32 * (Nn : Int)) ≤ top * (2 ^ 32 * (Nn : Int)) := Int.mul_le_mul_of_nonneg_right (by omega) (by omega)
        omega
    subst ht
    exact ⟨rfl, by omega⟩
theorem take_back {m H Nn Vf1 V2 x c : Nat} (hV2 : V2 < Nn) (hm : m < H) (hH : H < Nn) (hx : x < 2 ^ 32) (hc : c ≤ 1) (e1 : ((Vf1 + x * Nn : Nat) : Int) = m - H + 2 ^ 32 * Nn) (e2 : V2 + c * Nn = Vf1 + H) : V2 + (x + c) % 2 ^ 32 * Nn = m := by
  have e3 : V2 + (x + c) * Nn = m + 2 ^ 32 * Nn := by rw [Nat.add_mul]; omega
  have e4 : x + c = 2 ^ 32 := by
    rcases Nat.lt_trichotomy (x + c) (2 ^ 32) with t | t | t
    · exfalso
      have : (x + c + 1) * Nn ≤ 2 ^ 32 * Nn := Nat.mul_le_mul_right _ t
      rw [Nat.add_mul] at this
      omega
    · exact t
    · omega
  rw [e4] at e3 ⊢
  rw [Nat.mod_self]
  omega
set_option maxHeartbeats 8000000 in
theorem mtakes_ok (g : GX) {h : AH} {M0 M am ah aw n j q Nh : Nat} {s : Int32} {fl : List Value} {fh fw : Nat → Int32} (hO : h M0 = some (Ob 11 fl)) (hM : h M = some (Ob 12 [.ref am, .ref ah, .int (nI n), .int s])) (hh : h ah = some (Ai false 0 Nh fh)) (hw : h aw = some (Ai false 0 130 fw)) (f1 : fl[1]? = some (.ref aw)) (hne : ah ≠ aw) (hn : n ≤ Nh) (hNh : Nh < 2 ^ 31) (hj : j + n < 130) (hq : q < 2 ^ 32) (h0 : 0 < V n fh)
    (hqt : q = V (n + 1) (sh j fw) / V n fh ∨ q = V (n + 1) (sh j fw) / V n fh + 1) :
    MT g MX10_takes ({ frames := 1, cells := 0, slots := 0, locals := 20 } : Room) [.ref M0, .ref M, .int (nI j), .long (lN q)] h (RV fun h' => ∃ f, (∀ i, i < j ∨ j + n < i → f i = fw i) ∧ V (n + 1) (sh j f) = V (n + 1) (sh j fw) % V n fh ∧ h' = hset h aw (Ai false 0 130 f)) := by
  refine MT.of (by decide) (Nat.le_of_ble_eq_true rfl) ?_
  have out : ∀ f, hset h aw (Ai false 0 130 f) M0 = some (Ob 11 fl) ∧ hset h aw (Ai false 0 130 f) M = some (Ob 12 [.ref am, .ref ah, .int (nI n), .int s]) ∧ hset h aw (Ai false 0 130 f) ah = some (Ai false 0 Nh fh) := fun f =>
    ⟨by rw [hset_ne (ne_of hO hw (fun e => by cases e))]; exact hO, by rw [hset_ne (ne_of hM hw (fun e => by cases e))]; exact hM, by rw [hset_ne hne]; exact hh⟩
  have hHl := V_lt n fh
  have hWl := V_lt (n + 1) (sh j fw)
  rw [pow_s] at hWl
  have cjn : (nI (j + n)).toNatClampNeg = j + n := nI_clamp (by omega)
  have bjn : vp_in (nI (j + n)) 130 := vp_in_nI (by omega) (by omega)
  -- put right
  have back : ∀ (f1' : Nat → Int32) (a5 a7 : Int64) (a9 : Int32), (∀ i, i < j ∨ j + n < i → f1' i = fw i) → (V (n + 1) (sh j f1') : Int) = (V (n + 1) (sh j fw) % V n fh : Nat) - V n fh + 2 ^ 32 * (2 ^ (32 * n) : Nat) →
      XX g MX10_takes ({ frames := 1, cells := 0, slots := 0, locals := 20 } : Room) (RV fun h' => ∃ f, (∀ i, i < j ∨ j + n < i → f i = fw i) ∧ V (n + 1) (sh j f) = V (n + 1) (sh j fw) % V n fh ∧ h' = hset h aw (Ai false 0 130 f)) 0 0 138 [(7, .long a7), (9, .int a9), (5, .long a5), (0, .ref M0), (1, .ref M), (2, .int (nI j)), (3, .long (lN q))] [] (hset h aw (Ai false 0 130 f1')) := by
    intro f1' a5 a7 a9 hf1 hv1
    have loop := loop_up (P := fun k => ∀ (f : Nat → Int32) (c : Nat), c ≤ 1 → (∀ i, i < j ∨ j + k ≤ i → f i = f1' i) → V k (sh j f) + c * 2 ^ (32 * k) = V k (sh j f1') + V k fh →
        XX g MX10_takes ({ frames := 1, cells := 0, slots := 0, locals := 20 } : Room) (RV fun h' => ∃ f, (∀ i, i < j ∨ j + n < i → f i = fw i) ∧ V (n + 1) (sh j f) = V (n + 1) (sh j fw) % V n fh ∧ h' = hset h aw (Ai false 0 130 f)) 0 0 144 [(9, .int (nI k)), (7, .long (lN c)), (5, .long a5), (0, .ref M0), (1, .ref M), (2, .int (nI j)), (3, .long (lN q))] [] (hset h aw (Ai false 0 130 f))) n
      (by
        intro f c hc hf hv
        obtain ⟨o1, o2, o3⟩ := out f
        refine X_iload (pc := 144) 0 dX10_takes_144 rfl ?_
        refine X_aload_n (pc := 146) 4 dX10_takes_146 rfl rfl ?_
        refine X_getfield (pc := 147) dX10_takes_147 fg_X10_13_12 o2 (by first | rfl | assumption) ?_
        refine X_cge (pc := 150) 206 dX10_takes_150 (by decide) (by omega) (Nat.le_refl n) (fun _ => ?_) (fun c => absurd c (Nat.lt_irrefl _))
        refine X_aload_n (pc := 206) 3 dX10_takes_206 rfl rfl ?_
        refine X_getfield (pc := 207) dX10_takes_207 fg_X10_36_11 o1 f1 ?_
        refine X_iload_n (pc := 210) 5 dX10_takes_210 rfl rfl ?_
        refine X_aload_n (pc := 211) 4 dX10_takes_211 rfl rfl ?_
        refine X_getfield (pc := 212) dX10_takes_212 fg_X10_13_12 o2 (by first | rfl | assumption) ?_
        refine X_iadd (pc := 215) dX10_takes_215 ?_
        rw [nI_add]
        refine X_dup2_11 (pc := 216) dX10_takes_216 rfl rfl ?_
        refine X_iaload (pc := 217) dX10_takes_217 (hset_self _ _ _) bjn ?_
        rw [cjn, hf (j + n) (Or.inr (Nat.le_refl _))]
        refine X_lload (pc := 218) 1 dX10_takes_218 rfl ?_
        refine X_l2i (pc := 220) dX10_takes_220 ?_
        rw [lN_i]
        refine X_iadd (pc := 221) dX10_takes_221 ?_
        refine X_iastore (pc := 222) dX10_takes_222 (hset_self _ _ _) bjn ?_
        refine XX.eqh (hset_hset _ _ _ _) ?_
        rw [cjn]
        refine X_return (pc := 223) dX10_takes_223 rfl (Nat.le_of_ble_eq_true rfl) (Nat.le_of_ble_eq_true rfl) ?_
        refine ⟨rfl, _, fun i hi => ?_, ?_, rfl⟩
        · rw [pk_un (by omega), hf i (by omega)]
          exact hf1 i hi
        · rw [V_sh_upd, u32_add, u32_nI, Nat.mod_eq_of_lt (by omega : c < 2 ^ 32)]
          have l1 := V_lt n (sh j f)
          exact take_back l1 (Nat.mod_lt _ h0) hHl (u32_lt _) hc hv1 hv)
      (fun k hk ih f c hc hf hv => by
        obtain ⟨o1, o2, o3⟩ := out f
        have ck : (nI k).toNatClampNeg = k := nI_clamp (by omega)
        have cjk : (nI (j + k)).toNatClampNeg = j + k := nI_clamp (by omega)
        have b1 : vp_in (nI k) Nh := vp_in_nI (by omega) (by omega)
        have b2 : vp_in (nI (j + k)) 130 := vp_in_nI (by omega) (by omega)
        have l1 := u32_lt (f1' (j + k))
        have l2 := u32_lt (fh k)
        refine X_iload (pc := 144) 0 dX10_takes_144 rfl ?_
        refine X_aload_n (pc := 146) 4 dX10_takes_146 rfl rfl ?_
        refine X_getfield (pc := 147) dX10_takes_147 fg_X10_13_12 o2 (by first | rfl | assumption) ?_
        refine X_cge (pc := 150) 206 dX10_takes_150 (by decide) (by omega) (by omega) (fun c => absurd c (by omega)) (fun _ => ?_)
        refine X_lload (pc := 153) 1 dX10_takes_153 rfl ?_
        refine X_aload_n (pc := 155) 3 dX10_takes_155 rfl rfl ?_
        refine X_getfield (pc := 156) dX10_takes_156 fg_X10_36_11 o1 f1 ?_
        refine X_iload_n (pc := 159) 5 dX10_takes_159 rfl rfl ?_
        refine X_iload (pc := 160) 0 dX10_takes_160 rfl ?_
        refine X_iadd (pc := 162) dX10_takes_162 ?_
        rw [nI_add]
        refine X_iaload (pc := 163) dX10_takes_163 (hset_self _ _ _) b2 ?_
        rw [cjk, hf (j + k) (Or.inr (Nat.le_refl _))]
        refine X_isl (pc := 164) _ dX10_takes_164 cs_X10_9 rfl (mu_ok g _ _) nX10_u (Nat.le_of_ble_eq_true rfl) (Nat.le_of_ble_eq_true rfl) (Nat.le_of_ble_eq_true rfl) (Nat.le_of_ble_eq_true rfl) (fun r1 h1 q1 => ?_)
        obtain ⟨rfl, rfl⟩ := q1
        refine X_aload_n (pc := 167) 4 dX10_takes_167 rfl rfl ?_
        refine X_getfield (pc := 168) dX10_takes_168 fg_X10_39_12 o2 (by first | rfl | assumption) ?_
        refine X_iload (pc := 171) 0 dX10_takes_171 rfl ?_
        refine X_iaload (pc := 173) dX10_takes_173 o3 b1 ?_
        rw [ck]
        refine X_isl (pc := 174) _ dX10_takes_174 cs_X10_9 rfl (mu_ok g _ _) nX10_u (Nat.le_of_ble_eq_true rfl) (Nat.le_of_ble_eq_true rfl) (Nat.le_of_ble_eq_true rfl) (Nat.le_of_ble_eq_true rfl) (fun r1 h1 q1 => ?_)
        obtain ⟨rfl, rfl⟩ := q1
        refine X_ladd (pc := 177) dX10_takes_177 ?_
        refine X_ladd (pc := 178) dX10_takes_178 ?_
        rw [lN_add, lN_add]
        refine X_lstore (pc := 179) (L' := [(7, .long _), (9, .int _), (5, .long _), (0, .ref _), (1, .ref _), (2, .int _), (3, .long _)]) dX10_takes_179 (Nat.le_of_ble_eq_true rfl) rfl ?_
        refine X_aload_n (pc := 181) 3 dX10_takes_181 rfl rfl ?_
        refine X_getfield (pc := 182) dX10_takes_182 fg_X10_36_11 o1 f1 ?_
        refine X_iload_n (pc := 185) 5 dX10_takes_185 rfl rfl ?_
        refine X_iload (pc := 186) 1 dX10_takes_186 rfl ?_
        refine X_iadd (pc := 188) dX10_takes_188 ?_
        rw [nI_add]
        refine X_lload (pc := 189) 0 dX10_takes_189 rfl ?_
        refine X_l2i (pc := 191) dX10_takes_191 ?_
        rw [lN_i]
        refine X_iastore (pc := 192) dX10_takes_192 (hset_self _ _ _) b2 ?_
        refine XX.eqh (hset_hset _ _ _ _) ?_
        rw [cjk]
        refine X_lload (pc := 193) 0 dX10_takes_193 rfl ?_
        refine X_bipush (pc := 195) (x := 32) dX10_takes_195 (by decide) ?_
        refine X_lushr (pc := 197) dX10_takes_197 ?_
        rw [lsr32 (by omega)]
        refine X_lstore (pc := 198) (L' := [(7, .long _), (9, .int _), (5, .long _), (0, .ref _), (1, .ref _), (2, .int _), (3, .long _)]) dX10_takes_198 (Nat.le_of_ble_eq_true rfl) rfl ?_
        refine X_iinc (pc := 200) (L' := [(9, .int (_ + 1)), (7, .long _), (5, .long _), (0, .ref _), (1, .ref _), (2, .int _), (3, .long _)]) 1 dX10_takes_200 rfl rfl (Nat.le_of_ble_eq_true rfl) rfl ?_
        refine X_goto (pc := 203) 144 dX10_takes_203 (by decide) ?_
        rw [nI_1]
        refine XX.pick (L' := [(9, .int _), (7, .long _), (5, .long _), (0, .ref _), (1, .ref _), (2, .int _), (3, .long _)]) [0, 1, 2, 3, 4, 5, 6] rfl ?_
        refine ih _ _ (by omega) (fun i hi => ?_) ?_
        · rw [pk_un (by omega)]
          exact hf i (by omega)
        · rw [V_sh_upd]
          refine V_addN (fa := sh j f1') hv ?_
          rw [u32_nI]
          show _ = u32 (f1' (j + k)) + u32 (fh k) + c
          omega)
    refine X_lconst (pc := 138) (x := 0) dX10_takes_138 (by decide) ?_
    refine X_lstore (pc := 139) (L' := [(7, .long _), (9, .int _), (5, .long _), (0, .ref _), (1, .ref _), (2, .int _), (3, .long _)]) dX10_takes_139 (Nat.le_of_ble_eq_true rfl) rfl ?_
    refine X_iconst (pc := 141) (x := 0) dX10_takes_141 (by decide) ?_
    refine X_istore (pc := 142) (L' := [(9, .int _), (7, .long _), (5, .long _), (0, .ref _), (1, .ref _), (2, .int _), (3, .long _)]) dX10_takes_142 (Nat.le_of_ble_eq_true rfl) rfl ?_
    refine XX.pick (L' := [(9, .int _), (7, .long _), (5, .long _), (0, .ref _), (1, .ref _), (2, .int _), (3, .long _)]) [0, 1, 2, 3, 4, 5, 6] rfl ?_
    exact loop 0 (Nat.zero_le n) f1' 0 (by decide) (fun _ _ => rfl) (by show 0 + 0 * _ = 0 + 0; omega)
  -- the first loop
  have loop := loop_up (P := fun k => ∀ (f : Nat → Int32) (carry : Nat) (c : Int64), carry < 2 ^ 32 → (c = 0 ∨ c = -1) → (∀ i, i < j ∨ j + k ≤ i → f i = fw i) → (V k (sh j f) : Int) = V k (sh j fw) - q * V k fh + (carry - c.toInt) * 2 ^ (32 * k) →
      XX g MX10_takes ({ frames := 1, cells := 0, slots := 0, locals := 20 } : Room) (RV fun h' => ∃ f, (∀ i, i < j ∨ j + n < i → f i = fw i) ∧ V (n + 1) (sh j f) = V (n + 1) (sh j fw) % V n fh ∧ h' = hset h aw (Ai false 0 130 f)) 0 0 9 [(9, .int (nI k)), (7, .long c), (5, .long (lN carry)), (0, .ref M0), (1, .ref M), (2, .int (nI j)), (3, .long (lN q))] [] (hset h aw (Ai false 0 130 f))) n
    (by
      intro f carry c hca hc hf hv
      obtain ⟨o1, o2, o3⟩ := out f
      have l1 := u32_lt (fw (j + n))
      refine X_iload (pc := 9) 0 dX10_takes_9 rfl ?_
      refine X_aload_n (pc := 11) 4 dX10_takes_11 rfl rfl ?_
      refine X_getfield (pc := 12) dX10_takes_12 fg_X10_13_12 o2 (by first | rfl | assumption) ?_
      refine X_cge (pc := 15) 91 dX10_takes_15 (by decide) (by omega) (Nat.le_refl n) (fun _ => ?_) (fun c => absurd c (Nat.lt_irrefl _))
      refine X_lload (pc := 91) 1 dX10_takes_91 rfl ?_
      refine X_aload_n (pc := 93) 3 dX10_takes_93 rfl rfl ?_
      refine X_getfield (pc := 94) dX10_takes_94 fg_X10_36_11 o1 f1 ?_
      refine X_iload_n (pc := 97) 5 dX10_takes_97 rfl rfl ?_
      refine X_aload_n (pc := 98) 4 dX10_takes_98 rfl rfl ?_
      refine X_getfield (pc := 99) dX10_takes_99 fg_X10_13_12 o2 (by first | rfl | assumption) ?_
      refine X_iadd (pc := 102) dX10_takes_102 ?_
      rw [nI_add]
      refine X_iaload (pc := 103) dX10_takes_103 (hset_self _ _ _) bjn ?_
      rw [cjn, hf (j + n) (Or.inr (Nat.le_refl _))]
      refine X_isl (pc := 104) _ dX10_takes_104 cs_X10_9 rfl (mu_ok g _ _) nX10_u (Nat.le_of_ble_eq_true rfl) (Nat.le_of_ble_eq_true rfl) (Nat.le_of_ble_eq_true rfl) (Nat.le_of_ble_eq_true rfl) (fun r1 h1 q1 => ?_)
      obtain ⟨rfl, rfl⟩ := q1
      refine X_lload (pc := 107) 2 dX10_takes_107 rfl ?_
      refine X_lsub (pc := 109) dX10_takes_109 ?_
      refine X_ladd (pc := 110) dX10_takes_110 ?_
      refine X_topl (fun d ed => ?_)
      refine X_lstore (pc := 111) (L' := [(7, .long _), (9, .int _), (5, .long _), (0, .ref _), (1, .ref _), (2, .int _), (3, .long _)]) dX10_takes_111 (Nat.le_of_ble_eq_true rfl) rfl ?_
      refine X_aload_n (pc := 113) 3 dX10_takes_113 rfl rfl ?_
      refine X_getfield (pc := 114) dX10_takes_114 fg_X10_36_11 o1 f1 ?_
      refine X_iload_n (pc := 117) 5 dX10_takes_117 rfl rfl ?_
      refine X_aload_n (pc := 118) 4 dX10_takes_118 rfl rfl ?_
      refine X_getfield (pc := 119) dX10_takes_119 fg_X10_13_12 o2 (by first | rfl | assumption) ?_
      refine X_iadd (pc := 122) dX10_takes_122 ?_
      rw [nI_add]
      refine X_lload (pc := 123) 0 dX10_takes_123 rfl ?_
      refine X_l2i (pc := 125) dX10_takes_125 ?_
      refine X_iastore (pc := 126) dX10_takes_126 (hset_self _ _ _) bjn ?_
      refine XX.eqh (hset_hset _ _ _ _) ?_
      rw [cjn]
      refine X_lload (pc := 127) 0 dX10_takes_127 rfl ?_
      refine X_bipush (pc := 129) (x := 32) dX10_takes_129 (by decide) ?_
      refine X_lshr (pc := 131) dX10_takes_131 ?_
      refine X_topl (fun c' ec => ?_)
      obtain ⟨hc', hu⟩ := take_step l1 hca hc ed ec
      have hV1 : (V (n + 1) (sh j (upd f (j + n) d.toInt32)) : Int) = V (n + 1) (sh j fw) - q * V n fh - c'.toInt * (2 ^ 32 * (2 ^ (32 * n) : Nat)) := by
        rw [V_sh_upd]
        show _ = ((V n (sh j fw) + u32 (fw (j + n)) * 2 ^ (32 * n) : Nat) : Int) - _ - _
        push_cast
        rw [hu, hv]
        generalize (2 : Int) ^ (32 * n) = K
        generalize (u32 (fw (j + n)) : Int) = w
        generalize c'.toInt = y
        generalize c.toInt = z
        grind
      have hVl := V_lt (n + 1) (sh j (upd f (j + n) d.toInt32))
      rw [pow_s] at hVl
      have key := take_end h0 hHl hWl hVl rfl hqt hV1
      have hfo : ∀ i, i < j ∨ j + n < i → upd f (j + n) d.toInt32 i = fw i := fun i hi => by
        rw [pk_un (by omega)]
        exact hf i (by omega)
      refine X_lconst (pc := 132) (x := 0) dX10_takes_132 (by decide) ?_
      refine X_lcmp (pc := 133) dX10_takes_133 ?_
      refine X_if_ne (pc := 134) 138 dX10_takes_134 (by decide) (fun c_134 => ?_) (fun c_134 => ?_)
      · have hcn : c' ≠ 0 := fun z => c_134 ((lg_cmp_eq _ _).mpr z)
        rcases key with ⟨k1, -⟩ | ⟨-, k2⟩
        · exact absurd (Int64.toInt_inj.mp (show c'.toInt = (0 : Int64).toInt by rw [k1]; rfl)) hcn
        · exact back _ _ _ _ hfo k2
      · have hc0 := (lg_cmp_eq _ _).mp c_134
        refine X_return (pc := 137) dX10_takes_137 rfl (Nat.le_of_ble_eq_true rfl) (Nat.le_of_ble_eq_true rfl) ?_
        rcases key with ⟨-, k2⟩ | ⟨k1, -⟩
        · exact ⟨rfl, _, hfo, k2, rfl⟩
        · rw [hc0] at k1
          exact absurd k1 (by decide))
    (fun k hk ih f carry c hca hc hf hv => by
      obtain ⟨o1, o2, o3⟩ := out f
      have ck : (nI k).toNatClampNeg = k := nI_clamp (by omega)
      have cjk : (nI (j + k)).toNatClampNeg = j + k := nI_clamp (by omega)
      have b1 : vp_in (nI k) Nh := vp_in_nI (by omega) (by omega)
      have b2 : vp_in (nI (j + k)) 130 := vp_in_nI (by omega) (by omega)
      have l1 := u32_lt (fw (j + k))
      have l2 := u32_lt (fh k)
      have hs1 : carry + q * u32 (fh k) < 2 ^ 64 := by have := mulN_lt hq l2 hca (show 0 < 2 ^ 32 by decide); omega
      refine X_iload (pc := 9) 0 dX10_takes_9 rfl ?_
      refine X_aload_n (pc := 11) 4 dX10_takes_11 rfl rfl ?_
      refine X_getfield (pc := 12) dX10_takes_12 fg_X10_13_12 o2 (by first | rfl | assumption) ?_
      refine X_cge (pc := 15) 91 dX10_takes_15 (by decide) (by omega) (by omega) (fun c => absurd c (by omega)) (fun _ => ?_)
      refine X_lload (pc := 18) 2 dX10_takes_18 rfl ?_
      refine X_lload_n (pc := 20) 6 dX10_takes_20 rfl rfl ?_
      refine X_aload_n (pc := 21) 4 dX10_takes_21 rfl rfl ?_
      refine X_getfield (pc := 22) dX10_takes_22 fg_X10_39_12 o2 (by first | rfl | assumption) ?_
      refine X_iload (pc := 25) 0 dX10_takes_25 rfl ?_
      refine X_iaload (pc := 27) dX10_takes_27 o3 b1 ?_
      rw [ck]
      refine X_isl (pc := 28) _ dX10_takes_28 cs_X10_9 rfl (mu_ok g _ _) nX10_u (Nat.le_of_ble_eq_true rfl) (Nat.le_of_ble_eq_true rfl) (Nat.le_of_ble_eq_true rfl) (Nat.le_of_ble_eq_true rfl) (fun r1 h1 q1 => ?_)
      obtain ⟨rfl, rfl⟩ := q1
      refine X_lmul (pc := 31) dX10_takes_31 ?_
      refine X_ladd (pc := 32) dX10_takes_32 ?_
      rw [lN_mul, lN_add]
      refine X_lstore (pc := 33) (L' := [(5, .long _), (9, .int _), (7, .long _), (0, .ref _), (1, .ref _), (2, .int _), (3, .long _)]) dX10_takes_33 (Nat.le_of_ble_eq_true rfl) rfl ?_
      refine X_lload (pc := 35) 2 dX10_takes_35 rfl ?_
      refine X_aload_n (pc := 37) 3 dX10_takes_37 rfl rfl ?_
      refine X_getfield (pc := 38) dX10_takes_38 fg_X10_36_11 o1 f1 ?_
      refine X_iload_n (pc := 41) 5 dX10_takes_41 rfl rfl ?_
      refine X_iload (pc := 42) 1 dX10_takes_42 rfl ?_
      refine X_iadd (pc := 44) dX10_takes_44 ?_
      rw [nI_add]
      refine X_iaload (pc := 45) dX10_takes_45 (hset_self _ _ _) b2 ?_
      rw [cjk, hf (j + k) (Or.inr (Nat.le_refl _))]
      refine X_isl (pc := 46) _ dX10_takes_46 cs_X10_9 rfl (mu_ok g _ _) nX10_u (Nat.le_of_ble_eq_true rfl) (Nat.le_of_ble_eq_true rfl) (Nat.le_of_ble_eq_true rfl) (Nat.le_of_ble_eq_true rfl) (fun r1 h1 q1 => ?_)
      obtain ⟨rfl, rfl⟩ := q1
      refine X_lload (pc := 49) 0 dX10_takes_49 rfl ?_
      refine X_ldc2 (pc := 51) dX10_takes_51 q1402 ?_
      refine X_land (pc := 54) dX10_takes_54 ?_
      rw [land32 hs1]
      refine X_lsub (pc := 55) dX10_takes_55 ?_
      refine X_ladd (pc := 56) dX10_takes_56 ?_
      refine X_topl (fun d ed => ?_)
      refine X_lstore (pc := 57) (L' := [(7, .long _), (5, .long _), (9, .int _), (0, .ref _), (1, .ref _), (2, .int _), (3, .long _)]) dX10_takes_57 (Nat.le_of_ble_eq_true rfl) rfl ?_
      refine X_aload_n (pc := 59) 3 dX10_takes_59 rfl rfl ?_
      refine X_getfield (pc := 60) dX10_takes_60 fg_X10_36_11 o1 f1 ?_
      refine X_iload_n (pc := 63) 5 dX10_takes_63 rfl rfl ?_
      refine X_iload (pc := 64) 2 dX10_takes_64 rfl ?_
      refine X_iadd (pc := 66) dX10_takes_66 ?_
      rw [nI_add]
      refine X_lload (pc := 67) 0 dX10_takes_67 rfl ?_
      refine X_l2i (pc := 69) dX10_takes_69 ?_
      refine X_iastore (pc := 70) dX10_takes_70 (hset_self _ _ _) b2 ?_
      refine XX.eqh (hset_hset _ _ _ _) ?_
      rw [cjk]
      refine X_lload (pc := 71) 1 dX10_takes_71 rfl ?_
      refine X_bipush (pc := 73) (x := 32) dX10_takes_73 (by decide) ?_
      refine X_lushr (pc := 75) dX10_takes_75 ?_
      rw [lsr32 hs1]
      refine X_lstore (pc := 76) (L' := [(5, .long _), (7, .long _), (9, .int _), (0, .ref _), (1, .ref _), (2, .int _), (3, .long _)]) dX10_takes_76 (Nat.le_of_ble_eq_true rfl) rfl ?_
      refine X_lload (pc := 78) 1 dX10_takes_78 rfl ?_
      refine X_bipush (pc := 80) (x := 32) dX10_takes_80 (by decide) ?_
      refine X_lshr (pc := 82) dX10_takes_82 ?_
      refine X_topl (fun c' ec => ?_)
      obtain ⟨hc', hu⟩ := take_step l1 (Nat.mod_lt _ (by decide)) hc ed ec
      have hx : (carry + q * u32 (fh k)) % 2 ^ 32 + (carry + q * u32 (fh k)) / 2 ^ 32 * 2 ^ 32 = carry + q * u32 (fh k) := by omega
      have hx2 : (carry + q * u32 (fh k)) / 2 ^ 32 < 2 ^ 32 := by omega
      generalize (carry + q * u32 (fh k)) / 2 ^ 32 = ca at *
      generalize (carry + q * u32 (fh k)) % 2 ^ 32 = lo at *
      refine X_lstore (pc := 83) (L' := [(7, .long _), (5, .long _), (9, .int _), (0, .ref _), (1, .ref _), (2, .int _), (3, .long _)]) dX10_takes_83 (Nat.le_of_ble_eq_true rfl) rfl ?_
      refine X_iinc (pc := 85) (L' := [(9, .int (_ + 1)), (7, .long _), (5, .long _), (0, .ref _), (1, .ref _), (2, .int _), (3, .long _)]) 2 dX10_takes_85 rfl rfl (Nat.le_of_ble_eq_true rfl) rfl ?_
      refine X_goto (pc := 88) 9 dX10_takes_88 (by decide) ?_
      rw [nI_1]
      refine XX.pick (L' := [(9, .int _), (7, .long _), (5, .long _), (0, .ref _), (1, .ref _), (2, .int _), (3, .long _)]) [0, 1, 2, 3, 4, 5, 6] rfl ?_
      refine ih _ _ c' hx2 hc' (fun i hi => ?_) ?_
      · rw [pk_un (by omega)]
        exact hf i (by omega)
      · rw [V_sh_upd]
        have e : (2 : Int) ^ (32 * (k + 1)) = 2 ^ 32 * 2 ^ (32 * k) := by rw [← Int.pow_add]; congr 1; omega
        rw [e]
        show _ = ((V k (sh j fw) + u32 (fw (j + k)) * 2 ^ (32 * k) : Nat) : Int) - q * ((V k fh + u32 (fh k) * 2 ^ (32 * k) : Nat) : Int) + _
        push_cast
        refine take_V hv hu ?_
        omega)
  refine X_lconst (pc := 0) (x := 0) dX10_takes_0 (by decide) ?_
  refine X_lstore (pc := 1) (L' := [(5, .long _), (0, .ref _), (1, .ref _), (2, .int _), (3, .long _)]) dX10_takes_1 (Nat.le_of_ble_eq_true rfl) rfl ?_
  refine X_lconst (pc := 3) (x := 0) dX10_takes_3 (by decide) ?_
  refine X_lstore (pc := 4) (L' := [(7, .long _), (5, .long _), (0, .ref _), (1, .ref _), (2, .int _), (3, .long _)]) dX10_takes_4 (Nat.le_of_ble_eq_true rfl) rfl ?_
  refine X_iconst (pc := 6) (x := 0) dX10_takes_6 (by decide) ?_
  refine X_istore (pc := 7) (L' := [(9, .int _), (7, .long _), (5, .long _), (0, .ref _), (1, .ref _), (2, .int _), (3, .long _)]) dX10_takes_7 (Nat.le_of_ble_eq_true rfl) rfl ?_
  refine XX.pick (L' := [(9, .int _), (7, .long _), (5, .long _), (0, .ref _), (1, .ref _), (2, .int _), (3, .long _)]) [0, 1, 2, 3, 4, 5, 6] rfl ?_
  refine XX.eqh (hset_same hw).symm ?_
  exact loop 0 (Nat.zero_le n) fw 0 0 (by decide) (Or.inl rfl) (fun _ _ => rfl) (by show (0 : Int) = 0 - q * 0 + (0 - 0) * _; omega)
