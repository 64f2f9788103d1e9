set_option maxRecDepth 100000
/-! the reference: multiples of a point -/
def spt (R : Nat → Nat) (F : Nat → Int32) (s : Nat) : PP := if F (400 + s) = 0 then some (fp (R (200 + s)), fp (R (300 + s))) else none
theorem V_bit {n j r : Nat} {f : Nat → Int32} (hj : j < n) (hr : r < 32) : u32 (f j) / 2 ^ r % 2 = V n f / 2 ^ (32 * j + r) % 2 := by
  have e := lim_V f hj
  rw [← e, u32_lim, Nat.pow_add, ← Nat.div_div_eq_div_mul]
  generalize V n f / 2 ^ (32 * j) = x
  have e2 : (2 : Nat) ^ 32 = 2 ^ r * 2 ^ (32 - r) := by rw [← Nat.pow_add]; congr 1; omega
  rw [e2, Nat.mod_mul_right_div_self, Nat.mod_mod_of_dvd]
  refine ⟨2 ^ (32 - r - 1), ?_⟩
  rw [← Nat.pow_succ']
  congr 1
  omega
theorem bit_at {n b : Nat} {f : Nat → Int32} (hb : b / 32 < n) : ((f (b / 32)).toUInt32 >>> ((nI (b % 32)).toUInt32 &&& Int32.toUInt32 31)).toInt32 &&& 1 = nI (V n f / 2 ^ b % 2) := by
  have hr : b % 32 < 32 := Nat.mod_lt _ (by decide)
  have h1 : u32 (((f (b / 32)).toUInt32 >>> ((nI (b % 32)).toUInt32 &&& Int32.toUInt32 31)).toInt32) = u32 (f (b / 32)) / 2 ^ (b % 32) := pk_ushr _ (nI (b % 32)) (b % 32) (sr_n _ hr)
  rw [and1_u32, h1, V_bit hb hr, show 32 * (b / 32) + b % 32 = b by omega]
theorem b_div {k : Nat} (h : k < 2 ^ 31) : nI k / 32 = nI (k / 32) := pk_div (d := 32) h (by decide) (by decide)
theorem b_rem {k : Nat} (h : k < 2 ^ 31) : nI k - nI k / 32 * 32 = nI (k % 32) := pk_rem (d := 32) h (by decide) (by decide)
theorem fp_invM {v : Nat} (h0 : v ≠ 0) (hv : v < pP) : fp (invM pP v) = ivP (fp v) := by
  have hz : fp v ≠ 0 := fun e => h0 ((zero_fp hv).mp e)
  have h1 := ivP_ok _ hz
  have e : v * (ivP (fp v)).val % pP = 1 % pP := by
    rw [← fp_eq, fp_mul, fp_self, h1, fp_1]
  rw [invM_eq (fp_lt _) e, fp_self]
def mScr (t j : Nat) : Bool := j == 13 || j == 17 || j == 18 || j == 19 || j == 20 || j == 21 || j == 22 || j == 23 || j == 201 || j == 301 || j == 200 + t || j == 300 + t
theorem mScr_ne {t j k : Nat} (h : mScr t j = false) (hk : mScr t k = true) : j ≠ k := fun e => by rw [e, hk] at h; cases h
theorem pj_fin {F : Type} [Lean.Grind.CommRing F] {a u i : F} (h : u * i = 1) : a * u * i = a := by
  have e : a * u * i = a * (u * i) := by clear h; grind
  rw [e, h]
  clear h e
  grind
theorem pj_one {F : Type} [Lean.Grind.CommRing F] (a : F) : a * 1 = a := by grind
theorem one_lt_pP : 1 < pP := by decide +kernel
theorem fp_one_ne : (1 : Fp) ≠ 0 := fun e => by
  have h := (zero_fp one_lt_pP).mp (by rw [fp_1]; exact e)
  exact absurd h (by decide)
theorem stR_fr {R : Nat → Nat} {j : Nat} (h17 : j ≠ 17) (h18 : j ≠ 18) (h19 : j ≠ 19) (h20 : j ≠ 20) (h21 : j ≠ 21) (h22 : j ≠ 22) (h23 : j ≠ 23) : stR R j = R j := by
  unfold stR
  by_cases c1 : stA R 21 = 0
  · rw [if_pos c1]
    by_cases c2 : stA R 20 = 0
    · rw [if_pos c2, dblR_fr h17 h18 h19 h20 h21 h22 h23, stA_fr h20 h21]
    · rw [if_neg c2, stA_fr h20 h21]
  · rw [if_neg c1, stB_fr h17 h18 h19 h20 h22 h23, stA_fr h20 h21]
theorem cp3_o {R : Nat → Nat} {a b c va : Nat} {x y j : Nat} (h1 : j ≠ a) (h2 : j ≠ b) (h3 : j ≠ c) : rSet c va (rCp b y (rCp a x R)) j = R j := by
  unfold rSet rCp
  rw [up_ne h3, up_ne h2, up_ne h1]
theorem Pj_one {a b x y u : Fp} (hx : a = x) (hy : b = y) (hu : u = 1) : Pj a b u (some (x, y)) := by
  subst hx hy hu
  refine ⟨fp_one_ne, ?_, ?_⟩
  · exact (pj_one _).symm
  · exact (pj_one _).symm
section MM
variable {A : Nat → Nat} {X : AH} {R : Nat → Nat} {I : Nat → Nat → Int32} {S : Nat → List Int32} {F : Nat → Int32} {h : AH}
theorem MW.lt (w : MW A X R I S F h) {k : Nat} (hk : kdM k = (1, 0, 12)) : R k < pP := by obtain ⟨f, -, -, h3⟩ := w.n k hk; exact h3
set_option maxHeartbeats 4000000 in
theorem mul_ok (g : GX) (w : MW A X R I S F h) {sa t ak kv : Nat} (ha : sa < 31) (ht : t < 31) (hb : R (200 + sa) < pP) (hz : F (400 + sa) = 0 ∨ F (400 + sa) = 1) (hon : OnP (spt R F sa)) (hkv : kv < 2 ^ 384)
    (ok : ∀ {R' : Nat → Nat} {F' : Nat → Int32} {h' : AH}, MW A X R' I S F' h' → (∀ j, mScr t j = false → R' j = R j) → OpM A h' ak 12 kv) :
    MT g MX10_multiply ({ frames := 6, cells := 0, slots := 0, locals := 152 } : Room) [.ref (A 96), .ref ak, .ref (A (400 + sa)), .ref (A (400 + t))] h (RV fun h' => ∃ R' F', MW A X R' I S F' h' ∧ (∀ j, mScr t j = false → R' j = R j) ∧ (∀ j, j ≠ 401 → j ≠ 400 + t → F' j = F j) ∧ (F' (400 + t) = 0 ∨ F' (400 + t) = 1) ∧ (F' 401 = 0 ∨ F' 401 = 1) ∧ spt R' F' t = mP kv (spt R F sa) ∧ (F' (400 + t) = 0 → R' (200 + t) < pP)) := by
  refine MT.of (by decide) (Nat.le_of_ble_eq_true rfl) ?_
  generalize hPost : (RV fun h' => ∃ R' F', MW A X R' I S F' h' ∧ (∀ j, mScr t j = false → R' j = R j) ∧ (∀ j, j ≠ 401 → j ≠ 400 + t → F' j = F j) ∧ (F' (400 + t) = 0 ∨ F' (400 + t) = 1) ∧ (F' 401 = 0 ∨ F' 401 = 1) ∧ spt R' F' t = mP kv (spt R F sa) ∧ (F' (400 + t) = 0 → R' (200 + t) < pP)) = Post
  generalize hPt : spt R F sa = P at *
  -- the end: nothing is left
  have fin0 : ∀ (R' : Nat → Nat) (h' : AH) (x : Int32), MW A X R' I S (up F 401 (F (400 + sa))) h' → (∀ j, mScr t j = false → R' j = R j) → mB kv P 384 = none →
      XX g MX10_multiply ({ frames := 6, cells := 0, slots := 0, locals := 152 } : Room) Post 0 0 126 [(5, .int x), (4, .int 0), (0, .ref (A 96)), (1, .ref ak), (2, .ref (A (400 + sa))), (3, .ref (A (400 + t)))] [] h' := by
    intro R' h' x w fr hB
    refine X_aload_n (pc := 126) 5 dX10_multiply_126 rfl rfl ?_
    refine X_iload (pc := 127) 1 dX10_multiply_127 rfl ?_
    refine X_if_ne (pc := 129) 136 dX10_multiply_129 (by decide) (fun c => absurd rfl c) (fun _ => ?_)
    refine X_iconst (pc := 132) (x := 1) dX10_multiply_132 (by decide) ?_
    refine X_goto (pc := 133) 137 dX10_multiply_133 (by decide) ?_
    refine X_putfield (pc := 137) dX10_multiply_137 fp_X10_136_13 (fun e => by cases e) (w.sp t ht) rfl rfl (Nat.le_of_ble_eq_true rfl) ?_
    refine X_iload (pc := 140) 1 dX10_multiply_140 rfl ?_
    refine X_if_ne (pc := 142) 146 dX10_multiply_142 (by decide) (fun c => absurd rfl c) (fun _ => ?_)
    subst hPost
    refine X_return (pc := 145) dX10_multiply_145 rfl (Nat.le_of_ble_eq_true rfl) (Nat.le_of_ble_eq_true rfl) ?_
    refine ⟨rfl, R', _, w.setSp t ht (v := 1), fr, fun j j1 j2 => ?_, Or.inr (up_same _ _ _), ?_, ?_, fun e => ?_⟩
    · rw [up_ne j2, up_ne j1]
    · by_cases e : 401 = 400 + t
      · rw [← e, up_same]; exact Or.inr rfl
      · rw [up_ne e, up_same]; exact hz
    · unfold spt
      rw [up_same, if_neg (by decide), ← mB_all hon hkv, hB]
    · rw [up_same] at e
      exact absurd e (by decide)
  -- the end: a point
  have fin1 : ∀ (R' : Nat → Nat) (h' : AH) (x : Int32), MW A X R' I S (up F 401 (F (400 + sa))) h' → (∀ j, mScr t j = false → R' j = R j) → PjR R' (mB kv P 384) →
      XX g MX10_multiply ({ frames := 6, cells := 0, slots := 0, locals := 152 } : Room) Post 0 0 126 [(5, .int x), (4, .int 1), (0, .ref (A 96)), (1, .ref ak), (2, .ref (A (400 + sa))), (3, .ref (A (400 + t)))] [] h' := by
    intro R' h' x w fr hB
    rw [mB_all hon hkv] at hB
    have hlt := w.lt (k := 19) rfl
    have hu0 : R' 19 ≠ 0 := fun e => by
      generalize mP kv P = Q at hB
      match Q, hB with
      | none, hB => exact hB.elim
      | some (a, b), hB => exact hB.1 (by rw [e, fp_0])
    refine X_aload_n (pc := 126) 5 dX10_multiply_126 rfl rfl ?_
    refine X_iload (pc := 127) 1 dX10_multiply_127 rfl ?_
    refine X_if_ne (pc := 129) 136 dX10_multiply_129 (by decide) (fun _ => ?_) (fun c => absurd c (by decide))
    refine X_iconst (pc := 136) (x := 0) dX10_multiply_136 (by decide) ?_
    refine X_putfield (pc := 137) dX10_multiply_137 fp_X10_136_13 (fun e => by cases e) (w.sp t ht) rfl rfl (Nat.le_of_ble_eq_true rfl) ?_
    have w1 := w.setSp t ht (v := 0)
    refine X_iload (pc := 140) 1 dX10_multiply_140 rfl ?_
    refine X_if_ne (pc := 142) 146 dX10_multiply_142 (by decide) (fun _ => ?_) (fun c => absurd c (by decide))
    refine X_aload_n (pc := 146) 2 dX10_multiply_146 rfl rfl ?_
    refine X_aload_n (pc := 147) 2 dX10_multiply_147 rfl rfl ?_
    refine X_getfield (pc := 148) dX10_multiply_148 fg_X10_61_11 w1.ob mf_9 ?_
    refine X_aload_n (pc := 151) 2 dX10_multiply_151 rfl rfl ?_
    refine X_getfield (pc := 152) dX10_multiply_152 fg_X10_168_11 w1.ob mf_19 ?_
    refine X_aload_n (pc := 155) 2 dX10_multiply_155 rfl rfl ?_
    refine X_getfield (pc := 156) dX10_multiply_156 fg_X10_158_11 w1.ob mf_13 ?_
    refine X_ivi (pc := 159) _ dX10_multiply_159 cv_X10_161_11 w1.ob rfl (miP g w1 13 rfl (OpP.n w1 19 rfl) hu0) nX10_inverse (Nat.le_of_ble_eq_true rfl) (Nat.le_of_ble_eq_true rfl) (Nat.le_of_ble_eq_true rfl) (Nat.le_of_ble_eq_true rfl) (fun r2 h2 q2 => ?_)
    obtain ⟨rfl, w2⟩ := q2
    refine X_istore (pc := 162) (L' := [(5, .int _), (4, .int _), (0, .ref _), (1, .ref _), (2, .ref _), (3, .ref _)]) dX10_multiply_162 (Nat.le_of_ble_eq_true rfl) rfl ?_
    refine X_aload_n (pc := 164) 2 dX10_multiply_164 rfl rfl ?_
    refine X_aload_n (pc := 165) 2 dX10_multiply_165 rfl rfl ?_
    refine X_getfield (pc := 166) dX10_multiply_166 fg_X10_61_11 w2.ob mf_9 ?_
    refine X_aload_n (pc := 169) 2 dX10_multiply_169 rfl rfl ?_
    refine X_getfield (pc := 170) dX10_multiply_170 fg_X10_174_11 w2.ob mf_17 ?_
    refine X_aload_n (pc := 173) 2 dX10_multiply_173 rfl rfl ?_
    refine X_getfield (pc := 174) dX10_multiply_174 fg_X10_158_11 w2.ob mf_13 ?_
    refine X_aload_n (pc := 177) 5 dX10_multiply_177 rfl rfl ?_
    refine X_getfield (pc := 178) dX10_multiply_178 fg_X10_146_13 (w2.sp t ht) (by first | rfl | assumption) ?_
    refine X_ivv (pc := 181) _ dX10_multiply_181 cv_X10_102_11 w2.ob rfl (mtX g w2 ht (OpM.n w2 17 rfl) (OpM.n w2 13 rfl)) nX10_times (Nat.le_of_ble_eq_true rfl) (Nat.le_of_ble_eq_true rfl) (Nat.le_of_ble_eq_true rfl) (Nat.le_of_ble_eq_true rfl) (fun h3 w3 => ?_)
    refine X_aload_n (pc := 184) 2 dX10_multiply_184 rfl rfl ?_
    refine X_aload_n (pc := 185) 2 dX10_multiply_185 rfl rfl ?_
    refine X_getfield (pc := 186) dX10_multiply_186 fg_X10_61_11 w3.ob mf_9 ?_
    refine X_aload_n (pc := 189) 2 dX10_multiply_189 rfl rfl ?_
    refine X_getfield (pc := 190) dX10_multiply_190 fg_X10_180_11 w3.ob mf_18 ?_
    refine X_aload_n (pc := 193) 2 dX10_multiply_193 rfl rfl ?_
    refine X_getfield (pc := 194) dX10_multiply_194 fg_X10_158_11 w3.ob mf_13 ?_
    refine X_aload_n (pc := 197) 5 dX10_multiply_197 rfl rfl ?_
    refine X_getfield (pc := 198) dX10_multiply_198 fg_X10_149_13 (w3.sp t ht) (by first | rfl | assumption) ?_
    refine X_ivv (pc := 201) _ dX10_multiply_201 cv_X10_102_11 w3.ob rfl (mtP g w3 _ (kd_y ht) (OpM.n w3 18 rfl) (OpM.n w3 13 rfl)) nX10_times (Nat.le_of_ble_eq_true rfl) (Nat.le_of_ble_eq_true rfl) (Nat.le_of_ble_eq_true rfl) (Nat.le_of_ble_eq_true rfl) (fun h4 w4 => ?_)
    subst hPost
    refine X_return (pc := 204) dX10_multiply_204 rfl (Nat.le_of_ble_eq_true rfl) (Nat.le_of_ble_eq_true rfl) ?_
    have a1 : up (up R' 13 (invM pP (R' 19))) (200 + t) (up R' 13 (invM pP (R' 19)) 17 * up R' 13 (invM pP (R' 19)) 13 % pP) 18 = R' 18 := by rw [up_ne (by omega), up_ne (by decide)]
    have a2 : up (up R' 13 (invM pP (R' 19))) (200 + t) (up R' 13 (invM pP (R' 19)) 17 * up R' 13 (invM pP (R' 19)) 13 % pP) 13 = invM pP (R' 19) := by rw [up_ne (by omega), up_same]
    have a3 : up R' 13 (invM pP (R' 19)) 17 = R' 17 := up_ne (by decide)
    have a4 : up R' 13 (invM pP (R' 19)) 13 = invM pP (R' 19) := up_same _ _ _
    rw [a1, a2, a3, a4] at w4
    refine ⟨rfl, _, _, w4, fun j hj => ?_, fun j j1 j2 => ?_, Or.inl (up_same _ _ _), ?_, ?_, fun _ => ?_⟩
    · have e1 := mScr_ne hj (k := 13) rfl
      have e2 : j ≠ 200 + t := mScr_ne hj (by simp [mScr])
      have e3 : j ≠ 300 + t := mScr_ne hj (by simp [mScr])
      rw [up_ne e3, up_ne e2, up_ne e1]
      exact fr j hj
    · rw [up_ne j2, up_ne j1]
    · by_cases e : 401 = 400 + t
      · rw [← e, up_same]; exact Or.inl rfl
      · rw [up_ne e, up_same]; exact hz
    · unfold spt
      rw [up_same, if_pos rfl, up_ne (show 200 + t ≠ 300 + t by omega), up_same, up_same, fp_mod, fp_mod, fp_mul, fp_mul, fp_invM hu0 hlt]
      generalize mP kv P = Q at hB
      match Q, hB with
      | none, hB => exact hB.elim
      | some (a, b), hB =>
        obtain ⟨h0, hx, hy⟩ := hB
        rw [hx, hy, pj_fin (ivP_ok _ h0), pj_fin (ivP_ok _ h0)]
    · rw [up_ne (show 200 + t ≠ 300 + t by omega), up_same]
      exact md_lt _
  -- the walk goes on
  have loop : F (400 + sa) = 0 → ∀ (m : Nat), m ≤ 384 → ∀ (R' : Nat → Nat) (h' : AH) (fl : Int32), MW A X R' I S (up F 401 (F (400 + sa))) h' → (∀ j, mScr t j = false → R' j = R j) → R' 201 = R (200 + sa) → R' 301 = R (300 + sa) →
      (fl = 0 ∧ mB kv P (384 - m) = none ∨ fl = 1 ∧ PjR R' (mB kv P (384 - m))) →
      XX g MX10_multiply ({ frames := 6, cells := 0, slots := 0, locals := 152 } : Room) Post 0 0 16 [(5, .int (nI m - 1)), (4, .int fl), (0, .ref (A 96)), (1, .ref ak), (2, .ref (A (400 + sa))), (3, .ref (A (400 + t)))] [] h' := by
    intro hF0
    have hPs : P = some (fp (R (200 + sa)), fp (R (300 + sa))) := by rw [← hPt]; unfold spt; rw [if_pos hF0]
    intro m
    induction m with
    | zero =>
      intro hm R' h' fl w fr x1 y1 hfl
      refine X_iload (pc := 16) 0 dX10_multiply_16 rfl ?_
      refine X_if_lt (pc := 18) 126 dX10_multiply_18 (by decide) (fun c_18 => ?_) (fun c_18 => ?_)
      · rcases hfl with ⟨rfl, hB⟩ | ⟨rfl, hB⟩
        · exact fin0 R' h' _ w fr hB
        · exact fin1 R' h' _ w fr hB
      · exact absurd (show nI 0 - 1 < 0 by decide) c_18
    | succ k ih =>
      intro hm R' h' fl w fr x1 y1 hfl
      rw [nI_pred]
      have hi : 384 - k = (384 - (k + 1)) + 1 := by omega
      have hbit : 383 - (384 - (k + 1)) = k := by omega
      have hOn : OnP (mB kv P (384 - (k + 1))) := by rw [mB_eq hon hkv _ (by omega)]; exact mP_on hon _
      have hst : mB kv P (384 - k) = if kv / 2 ^ k % 2 = 1 then adP (adP (mB kv P (384 - (k + 1))) (mB kv P (384 - (k + 1)))) P else adP (mB kv P (384 - (k + 1))) (mB kv P (384 - (k + 1))) := by
        rw [hi]
        show (if kv / 2 ^ (383 - (384 - (k + 1))) % 2 = 1 then _ else _) = _
        rw [hbit]
      generalize mB kv P (384 - (k + 1)) = Q at hOn hst hfl
      -- behind the doubling
      have mid : ∀ (R2 : Nat → Nat) (h2 : AH) (fl : Int32), MW A X R2 I S (up F 401 (F (400 + sa))) h2 → (∀ j, mScr t j = false → R2 j = R j) → R2 201 = R (200 + sa) → R2 301 = R (300 + sa) →
          (fl = 0 ∧ adP Q Q = none ∨ fl = 1 ∧ PjR R2 (adP Q Q)) →
          XX g MX10_multiply ({ frames := 6, cells := 0, slots := 0, locals := 152 } : Room) Post 0 0 40 [(5, .int (nI k)), (4, .int fl), (0, .ref (A 96)), (1, .ref ak), (2, .ref (A (400 + sa))), (3, .ref (A (400 + t)))] [] h2 := by
        intro R2 h2 fl w fr x1 y1 hfl
        obtain ⟨ro, n, f, hc, hn, hn2, hV, -, -⟩ := ok w fr
        have hk12 : k / 32 < 12 := by omega
        have ck : (nI (k / 32)).toNatClampNeg = k / 32 := nI_clamp (by omega)
        have b1 : vp_in (nI (k / 32)) n := vp_in_nI (by omega) (by omega)
        refine X_aload_n (pc := 40) 3 dX10_multiply_40 rfl rfl ?_
        refine X_iload (pc := 41) 0 dX10_multiply_41 rfl ?_
        refine X_bipush (pc := 43) (x := 32) dX10_multiply_43 (by decide) ?_
        refine X_idiv (pc := 45) dX10_multiply_45 (by decide) ?_
        rw [b_div (by omega)]
        refine X_iaload (pc := 46) dX10_multiply_46 hc b1 ?_
        refine X_iload (pc := 47) 0 dX10_multiply_47 rfl ?_
        refine X_bipush (pc := 49) (x := 32) dX10_multiply_49 (by decide) ?_
        refine X_irem (pc := 51) dX10_multiply_51 (by decide) ?_
        rw [b_rem (by omega), ck]
        refine X_iushr (pc := 52) dX10_multiply_52 ?_
        refine X_iconst (pc := 53) (x := 1) dX10_multiply_53 (by decide) ?_
        refine X_iand (pc := 54) dX10_multiply_54 ?_
        rw [bit_at hk12, hV]
        have h01 : kv / 2 ^ k % 2 = 0 ∨ kv / 2 ^ k % 2 = 1 := by omega
        rcases h01 with hb0 | hb1
        · rw [hb0]
          refine X_if_ne (pc := 55) 61 dX10_multiply_55 (by decide) (fun c => absurd rfl c) (fun _ => ?_)
          refine X_goto (pc := 58) 120 dX10_multiply_58 (by decide) ?_
          refine X_iinc (pc := 120) (L' := [(5, .int (_ + (-1))), (4, .int _), (0, .ref _), (1, .ref _), (2, .ref _), (3, .ref _)]) 0 dX10_multiply_120 rfl rfl (Nat.le_of_ble_eq_true rfl) rfl ?_
          refine X_goto (pc := 123) 16 dX10_multiply_123 (by decide) ?_
          rw [m1]
          refine ih (by omega) R2 h2 fl w fr x1 y1 ?_
          rw [hst, if_neg (by omega)]
          exact hfl
        · rw [hb1]
          refine X_if_ne (pc := 55) 61 dX10_multiply_55 (by decide) (fun _ => ?_) (fun c => absurd c (by decide))
          rw [if_pos hb1] at hst
          rcases hfl with ⟨rfl, hB⟩ | ⟨rfl, hB⟩
          · refine X_iload (pc := 61) 1 dX10_multiply_61 rfl ?_
            refine X_if_eq (pc := 63) 75 dX10_multiply_63 (by decide) (fun _ => ?_) (fun c => absurd rfl c)
            rw [hB, none_ad] at hst
            refine X_aload_n (pc := 75) 2 dX10_multiply_75 rfl rfl ?_
            refine X_getfield (pc := 76) dX10_multiply_76 fg_X10_192_11 w.ob mf_12 ?_
            refine X_getfield (pc := 79) dX10_multiply_79 fg_X10_146_13 (w.sp 1 (by decide)) (by first | rfl | assumption) ?_
            refine X_aload_n (pc := 82) 2 dX10_multiply_82 rfl rfl ?_
            refine X_getfield (pc := 83) dX10_multiply_83 fg_X10_174_11 w.ob mf_17 ?_
            refine X_bipush (pc := 86) (x := 12) dX10_multiply_86 (by decide) ?_
            refine X_isv (pc := 88) _ dX10_multiply_88 cs_X10_91 rfl (mcpPr g w 17 201 rfl rfl) nX10_copy (Nat.le_of_ble_eq_true rfl) (Nat.le_of_ble_eq_true rfl) (Nat.le_of_ble_eq_true rfl) (Nat.le_of_ble_eq_true rfl) (fun h3 w3 => ?_)
            refine X_aload_n (pc := 91) 2 dX10_multiply_91 rfl rfl ?_
            refine X_getfield (pc := 92) dX10_multiply_92 fg_X10_192_11 w3.ob mf_12 ?_
            refine X_getfield (pc := 95) dX10_multiply_95 fg_X10_149_13 (w3.sp 1 (by decide)) (by first | rfl | assumption) ?_
            refine X_aload_n (pc := 98) 2 dX10_multiply_98 rfl rfl ?_
            refine X_getfield (pc := 99) dX10_multiply_99 fg_X10_180_11 w3.ob mf_18 ?_
            refine X_bipush (pc := 102) (x := 12) dX10_multiply_102 (by decide) ?_
            refine X_isv (pc := 104) _ dX10_multiply_104 cs_X10_91 rfl (mcpPr g w3 18 301 rfl rfl) nX10_copy (Nat.le_of_ble_eq_true rfl) (Nat.le_of_ble_eq_true rfl) (Nat.le_of_ble_eq_true rfl) (Nat.le_of_ble_eq_true rfl) (fun h4 w4 => ?_)
            refine X_iconst (pc := 107) (x := 1) dX10_multiply_107 (by decide) ?_
            refine X_aload_n (pc := 108) 2 dX10_multiply_108 rfl rfl ?_
            refine X_getfield (pc := 109) dX10_multiply_109 fg_X10_168_11 w4.ob mf_19 ?_
            refine X_bipush (pc := 112) (x := 12) dX10_multiply_112 (by decide) ?_
            refine X_isv (pc := 114) _ dX10_multiply_114 cs_X10_98 rfl (msmP g w4 19 rfl (v := 1) one_lt_pP) nX10_small (Nat.le_of_ble_eq_true rfl) (Nat.le_of_ble_eq_true rfl) (Nat.le_of_ble_eq_true rfl) (Nat.le_of_ble_eq_true rfl) (fun h5 w5 => ?_)
            refine X_iconst (pc := 117) (x := 1) dX10_multiply_117 (by decide) ?_
            refine X_istore (pc := 118) (L' := [(4, .int _), (5, .int _), (0, .ref _), (1, .ref _), (2, .ref _), (3, .ref _)]) dX10_multiply_118 (Nat.le_of_ble_eq_true rfl) rfl ?_
            refine X_iinc (pc := 120) (L' := [(5, .int (_ + (-1))), (4, .int _), (0, .ref _), (1, .ref _), (2, .ref _), (3, .ref _)]) 1 dX10_multiply_120 rfl rfl (Nat.le_of_ble_eq_true rfl) rfl ?_
            refine X_goto (pc := 123) 16 dX10_multiply_123 (by decide) ?_
            rw [m1]
            refine ih (by omega) _ h5 1 w5 (fun j hj => ?_) ?_ ?_ (Or.inr ⟨rfl, ?_⟩)
            · rw [cp3_o (mScr_ne hj rfl) (mScr_ne hj rfl) (mScr_ne hj rfl)]; exact fr j hj
            · rw [cp3_o (by decide) (by decide) (by decide)]; exact x1
            · rw [cp3_o (by decide) (by decide) (by decide)]; exact y1
            · rw [hst, hPs]
              refine Pj_one ?_ ?_ ?_
              · rw [← x1]; rfl
              · rw [← y1]; rfl
              · exact fp_1
          · refine X_iload (pc := 61) 1 dX10_multiply_61 rfl ?_
            refine X_if_eq (pc := 63) 75 dX10_multiply_63 (by decide) (fun c => absurd c (by decide)) (fun _ => ?_)
            refine X_aload_n (pc := 66) 2 dX10_multiply_66 rfl rfl ?_
            refine X_ivi (pc := 67) _ dX10_multiply_67 cv_X10_200_11 w.ob rfl (steps_ok g w) nX10_steps (Nat.le_of_ble_eq_true rfl) (Nat.le_of_ble_eq_true rfl) (Nat.le_of_ble_eq_true rfl) (Nat.le_of_ble_eq_true rfl) (fun r3 h3 q3 => ?_)
            obtain ⟨s0, s1, w3⟩ := q3
            obtain ⟨m0, m1'⟩ := steps_m (w.lt (k := 17) rfl) (w.lt (k := 18) rfl) (w.lt (k := 19) rfl) ⟨by rw [x1], w.lt (k := 201) rfl⟩ ⟨by rw [y1], w.lt (k := 301) rfl⟩ (ad_on hOn hOn) (by rw [← hPs]; exact hon) hB
            refine X_istore (pc := 70) (L' := [(4, .int _), (5, .int _), (0, .ref _), (1, .ref _), (2, .ref _), (3, .ref _)]) dX10_multiply_70 (Nat.le_of_ble_eq_true rfl) rfl ?_
            refine X_goto (pc := 72) 120 dX10_multiply_72 (by decide) ?_
            refine X_iinc (pc := 120) (L' := [(5, .int (_ + (-1))), (4, .int _), (0, .ref _), (1, .ref _), (2, .ref _), (3, .ref _)]) 1 dX10_multiply_120 rfl rfl (Nat.le_of_ble_eq_true rfl) rfl ?_
            refine X_goto (pc := 123) 16 dX10_multiply_123 (by decide) ?_
            rw [m1]
            refine ih (by omega) _ h3 _ w3 (fun j hj => ?_) ?_ ?_ ?_
            · rw [stR_fr (mScr_ne hj rfl) (mScr_ne hj rfl) (mScr_ne hj rfl) (mScr_ne hj rfl) (mScr_ne hj rfl) (mScr_ne hj rfl) (mScr_ne hj rfl)]; exact fr j hj
            · rw [stR_fr (by decide) (by decide) (by decide) (by decide) (by decide) (by decide) (by decide)]; exact x1
            · rw [stR_fr (by decide) (by decide) (by decide) (by decide) (by decide) (by decide) (by decide)]; exact y1
            · rw [hst, hPs]
              by_cases c : stN R2
              · exact Or.inl ⟨s0 c, m0 c⟩
              · exact Or.inr ⟨s1 c, m1' c⟩
      refine X_iload (pc := 16) 0 dX10_multiply_16 rfl ?_
      refine X_if_lt (pc := 18) 126 dX10_multiply_18 (by decide) (fun c_18 => ?_) (fun c_18 => ?_)
      · exact absurd c_18 (nI_pos (by omega))
      · refine X_aload_n (pc := 21) 2 dX10_multiply_21 rfl rfl ?_
        refine X_getfield (pc := 22) dX10_multiply_22 fg_X10_192_11 w.ob mf_12 ?_
        refine X_getfield (pc := 25) dX10_multiply_25 fg_X10_136_13 (w.sp 1 (by decide)) (by first | rfl | assumption) ?_
        have e401 : up F 401 (F (400 + sa)) (400 + 1) = 0 := by rw [up_same]; exact hF0
        rw [e401]
        refine X_if_ne (pc := 28) 126 dX10_multiply_28 (by decide) (fun c => absurd rfl c) (fun _ => ?_)
        rcases hfl with ⟨rfl, hB⟩ | ⟨rfl, hB⟩
        · refine X_iload (pc := 31) 1 dX10_multiply_31 rfl ?_
          refine X_if_eq (pc := 33) 40 dX10_multiply_33 (by decide) (fun _ => ?_) (fun c => absurd rfl c)
          exact mid R' h' 0 w fr x1 y1 (Or.inl ⟨rfl, by rw [hB, ad_none]⟩)
        · refine X_iload (pc := 31) 1 dX10_multiply_31 rfl ?_
          refine X_if_eq (pc := 33) 40 dX10_multiply_33 (by decide) (fun c => absurd c (by decide)) (fun _ => ?_)
          refine X_aload_n (pc := 36) 2 dX10_multiply_36 rfl rfl ?_
          refine X_ivv (pc := 37) _ dX10_multiply_37 cv_X10_196_11 w.ob rfl (doubles_ok g w) nX10_doubles (Nat.le_of_ble_eq_true rfl) (Nat.le_of_ble_eq_true rfl) (Nat.le_of_ble_eq_true rfl) (Nat.le_of_ble_eq_true rfl) (fun h2 w2 => ?_)
          refine mid _ h2 1 w2 (fun j hj => ?_) ?_ ?_ (Or.inr ⟨rfl, dbl_ok (w.lt (k := 17) rfl) (w.lt (k := 18) rfl) (w.lt (k := 19) rfl) hOn hB⟩)
          · rw [dblR_fr (mScr_ne hj rfl) (mScr_ne hj rfl) (mScr_ne hj rfl) (mScr_ne hj rfl) (mScr_ne hj rfl) (mScr_ne hj rfl) (mScr_ne hj rfl)]; exact fr j hj
          · rw [dblR_fr (by decide) (by decide) (by decide) (by decide) (by decide) (by decide) (by decide)]; exact x1
          · rw [dblR_fr (by decide) (by decide) (by decide) (by decide) (by decide) (by decide) (by decide)]; exact y1
  -- the way in
  refine X_aload_n (pc := 0) 0 dX10_multiply_0 rfl rfl ?_
  refine X_getfield (pc := 1) dX10_multiply_1 fg_X10_192_11 w.ob mf_12 ?_
  refine X_aload_n (pc := 4) 2 dX10_multiply_4 rfl rfl ?_
  refine X_ivv (pc := 5) _ dX10_multiply_5 cv_X10_142_13 (w.sp 1 (by decide)) rfl (sis_ok g w (t := 1) (by decide) ha hb hz) nX12_is (Nat.le_of_ble_eq_true rfl) (Nat.le_of_ble_eq_true rfl) (Nat.le_of_ble_eq_true rfl) (Nat.le_of_ble_eq_true rfl) (fun h1 w1 => ?_)
  have fr1 : ∀ j, mScr t j = false → rIs 1 sa R j = R j := fun j hj => by
    unfold rIs
    rw [up_ne (mScr_ne hj rfl), up_ne (mScr_ne hj rfl)]
  refine X_iconst (pc := 8) (x := 0) dX10_multiply_8 (by decide) ?_
  refine X_istore (pc := 9) (L' := [(4, .int _), (0, .ref _), (1, .ref _), (2, .ref _), (3, .ref _)]) dX10_multiply_9 (Nat.le_of_ble_eq_true rfl) rfl ?_
  refine X_sipush (pc := 11) (x := 383) dX10_multiply_11 (by decide) ?_
  refine X_istore (pc := 14) (L' := [(5, .int _), (4, .int _), (0, .ref _), (1, .ref _), (2, .ref _), (3, .ref _)]) dX10_multiply_14 (Nat.le_of_ble_eq_true rfl) rfl ?_
  rcases hz with hz0 | hz1
  · refine loop hz0 384 (Nat.le_refl _) _ h1 0 w1 fr1 ?_ ?_ (Or.inl ⟨rfl, rfl⟩)
    · unfold rIs
      rw [up_ne (by decide), up_same]
    · unfold rIs
      rw [up_same]
  · have hPn : P = none := by rw [← hPt]; unfold spt; rw [if_neg (by rw [hz1]; decide)]
    refine X_iload (pc := 16) 0 dX10_multiply_16 rfl ?_
    refine X_if_lt (pc := 18) 126 dX10_multiply_18 (by decide) (fun c_18 => ?_) (fun c_18 => ?_)
    · exact absurd c_18 (by decide)
    · refine X_aload_n (pc := 21) 2 dX10_multiply_21 rfl rfl ?_
      refine X_getfield (pc := 22) dX10_multiply_22 fg_X10_192_11 w1.ob mf_12 ?_
      refine X_getfield (pc := 25) dX10_multiply_25 fg_X10_136_13 (w1.sp 1 (by decide)) (by first | rfl | assumption) ?_
      have e401 : up F (400 + 1) (F (400 + sa)) (400 + 1) = 1 := by rw [up_same]; exact hz1
      rw [e401]
      refine X_if_ne (pc := 28) 126 dX10_multiply_28 (by decide) (fun _ => ?_) (fun c => absurd c (by decide))
      exact fin0 _ h1 _ w1 fr1 (by rw [mB_all hon hkv, hPn, mP_none])
end MM
