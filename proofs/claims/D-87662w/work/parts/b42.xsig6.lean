set_option maxRecDepth 100000
/-! VeilMint's keys of the second type: blinding -/
def FrK (K B : Nat) (R R' : Nat → Nat) (S S' : Nat → List Int32) (F F' : Nat → Int32) : Prop := (∀ j, obR B j = false → j ≠ K → R' j = R j) ∧ (∀ j, obS B j = false → S' j = S j) ∧ ∀ j, j ≠ 22 → j ≠ 23 → j ≠ 24 → F' j = F j
theorem FrK.trans {K B : Nat} {R R' R'' : Nat → Nat} {S S' S'' : Nat → List Int32} {F F' F'' : Nat → Int32} (a : FrK K B R R' S S' F F') (b : FrK K B R' R'' S' S'' F' F'') : FrK K B R R'' S S'' F F'' :=
  ⟨fun j h h0 => (b.1 j h h0).trans (a.1 j h h0), fun j h => (b.2.1 j h).trans (a.2.1 j h), fun j h1 h2 h3 => (b.2.2 j h1 h2 h3).trans (a.2.2 j h1 h2 h3)⟩
theorem FrK.why {K B : Nat} {R R' : Nat → Nat} {S S' : Nat → List Int32} {F F' : Nat → Int32} (a : FrK K B R R' S S' F F') (v : Int32) : FrK K B R R' S S' F (up F' 24 v) := ⟨a.1, a.2.1, fun j h1 h2 h3 => (up_ne h3).trans (a.2.2 j h1 h2 h3)⟩
theorem FrO.k {B : Nat} {R R' : Nat → Nat} {S S' : Nat → List Int32} {F F' : Nat → Int32} (a : FrO B R R' S S' F F') (K : Nat) : FrK K B R R' S S' F F' := ⟨fun j h _ => a.1 j h, a.2.1, a.2.2⟩
def TK (K j : Nat) : Bool := T80 j || j == K
theorem TK_f {K j : Nat} (h : ¬ (80 ≤ j ∧ j < 100)) (h2 : j ≠ K) : TK K j = false := by
  unfold TK
  rw [T80_f h, Bool.false_or, beq_eq_false_iff_ne]
  exact h2
theorem TK_k (K : Nat) : TK K K = true := by unfold TK; rw [beq_self_eq_true, Bool.or_true]
theorem TK_t {K j : Nat} (h : 80 ≤ j ∧ j < 100) : TK K j = true := by unfold TK; rw [T80_t h, Bool.true_or]
theorem mgm_half2 {m n c s : Nat} (hm : m % 2 = 1) : mgm m n (s * (c * 2 ^ (32 * n) % m)) = c * s % m := by rw [Nat.mul_comm s, mgm_half hm]
theorem MoK.gw {D : Nat → Bool} {kd kd' : Nat → KD} {A A' : Nat → Nat} {O O' : Nat → AC} {K p mv : Nat} {ng : Int32} (m : MoK kd A O K p mv ng) (e : Gw D kd A O kd' A' O') (hK : 80 ≤ K) (hD : ∀ j, K ≤ j → j < K + 10 → D j = false) : MoK kd' A' O' K p mv ng := by
  have q : ∀ i, i < 10 → kd' (K + i) = kd (K + i) ∧ A' (K + i) = A (K + i) ∧ OS A' O' (K + i) = OS A O (K + i) := fun i hi => by
    have := e.1 (K + i) (hD _ (by omega) (by omega))
    refine ⟨this.1, this.2.1, ?_⟩
    unfold OS
    rw [if_neg (by omega), if_neg (by omega)]
    exact this.2.2
  obtain ⟨a0, b0, a1, b1, a2, b2, a3, b3, a4, b4, a5, a6, a7, a8, a9, r1, r2, r3, r4, r5, r6⟩ := m
  refine ⟨by rw [show kd' K = kd K from (q 0 (by decide)).1]; exact a0, ?_, by rw [(q 1 (by decide)).1]; exact a1, by rw [(q 1 (by decide)).2.2]; exact b1, by rw [(q 2 (by decide)).1]; exact a2, by rw [(q 2 (by decide)).2.2]; exact b2, by rw [(q 3 (by decide)).1]; exact a3, by rw [(q 3 (by decide)).2.2]; exact b3, by rw [(q 4 (by decide)).1]; exact a4, by rw [(q 4 (by decide)).2.2]; exact b4, by rw [(q 5 (by decide)).1]; exact a5, by rw [(q 6 (by decide)).1]; exact a6, by rw [(q 7 (by decide)).1]; exact a7, by rw [(q 8 (by decide)).1]; exact a8, by rw [(q 9 (by decide)).1]; exact a9, r1, r2, r3, r4, r5, r6⟩
  rw [show OS A' O' K = OS A O K from (q 0 (by decide)).2.2, b0]
  unfold MdC
  dsimp only
  rw [(q 1 (by decide)).2.1, (q 2 (by decide)).2.1, (q 3 (by decide)).2.1, (q 4 (by decide)).2.1, (q 5 (by decide)).2.1, (q 6 (by decide)).2.1, (q 7 (by decide)).2.1, (q 8 (by decide)).2.1, (q 9 (by decide)).2.1]
theorem SgK.gw {D : Nat → Bool} {kd kd' : Nat → KD} {A A' : Nat → Nat} {O O' : Nat → AC} {B sz s p mv : Nat} {ng lv : Int32} (o : SgK kd A O B sz s p mv ng lv) (e : Gw D kd A O kd' A' O') (hD : ∀ j, (j = 6 ∨ j = 50 ∨ (B ≤ j ∧ j < B + 30)) → D j = false) : SgK kd' A' O' B sz s p mv ng lv := by
  have hB := o.b
  have e' : ∀ i, i < 30 → kd' (B + i) = kd (B + i) ∧ A' (B + i) = A (B + i) ∧ O' (B + i) = O (B + i) := fun i hi => e.1 _ (hD _ (by omega))
  have e0 := e' 0 (by decide)
  have e6 := (e.1 6 (hD _ (by omega))).2.1
  have e50 := (e.1 50 (hD _ (by omega))).2.1
  obtain ⟨⟨a1, a2, a3⟩, b1, b2, b3, b4, b5, b6, b7, b8, b9, c1, c2⟩ := o
  refine ⟨⟨a1, by rw [← a2]; exact e0.1, ?_⟩, by rw [(e' 1 (by decide)).1]; exact b1, by rw [(e' 2 (by decide)).1]; exact b2, by rw [(e' 3 (by decide)).1]; exact b3, by rw [(e' 4 (by decide)).1]; exact b4, by rw [(e' 5 (by decide)).1]; exact b5, by rw [(e' 6 (by decide)).1]; exact b6, by rw [(e' 7 (by decide)).1]; exact b7, by rw [(e' 8 (by decide)).1]; exact b8, by rw [(e' 9 (by decide)).1]; exact b9, c1.gw e (by omega) (fun j _ _ => hD j (by omega)), c2⟩
  have : O' B = O B := e0.2.2
  rw [this, a3]
  unfold sgFl
  rw [(e' 1 (by decide)).2.1, e6, e50, (e' 10 (by decide)).2.1, (e' 9 (by decide)).2.1, (e' 2 (by decide)).2.1, (e' 3 (by decide)).2.1, (e' 4 (by decide)).2.1, (e' 5 (by decide)).2.1, (e' 6 (by decide)).2.1, (e' 7 (by decide)).2.1, (e' 8 (by decide)).2.1]
section XSg6
variable {kd : Nat → KD} {A : Nat → Nat} {X : AH} {R : Nat → Nat} {S : Nat → List Int32} {O : Nat → AC} {F : Nat → Int32} {h : AH} {B sz s p mv : Nat} {ng lv : Int32} {g : GX} {Q : Outcome → AH → Prop}
set_option maxHeartbeats 8000000 in
theorem blindsG2 (w : XW kd A X R S O F h) (o : SgK kd A O B sz s p mv ng lv) {K at' em rr : Nat} (hK : 1000 ≤ K) (hB2 : B + 30 ≤ 1000) (kK : kd K = (2, 0, p + 1)) (k80 : kd 80 = (2, 0, p + 1)) (hx : R (B + 3) = em) (hT : at' + s + sz ≤ (S 56).length) (hrr : num (S 56) (at' + s) sz = rr) (hl : (S 58).length + sz ≤ 1200)
    (good : ∀ R' S' h', FrK K B R R' S S' F F → (em < mv ∧ Nat.gcd em mv = 1 ∧ rr < mv ∧ Nat.gcd rr mv = 1) → S' 58 = S 58 ++ byN (rr ^ R (B + 9) * em % mv) sz → R' K = invM mv rr → XW kd A X R' S' O F h' → Q (.returned (some (.ref (A K)))) h')
    (bad : ∀ R' S' F' h', FrK K B R R' S S' F F' → ¬ (em < mv ∧ Nat.gcd em mv = 1 ∧ rr < mv ∧ Nat.gcd rr mv = 1) → F' 24 = -4 → XW kd A X R' S' O F' h' → Q (.threw (A 50)) h') {a1 : Nat} {r6 : Int32} :
    XX g MX15_blinds ({ frames := 6, cells := 3, slots := 192, locals := 163 } : Room) Q 2 128 127 [(9, .ref (A 80)), (8, .ref (A K)), (7, .int (if em < mv then 1 else 0)), (6, .int r6), (0, .ref (A B)), (1, .ref a1), (2, .ref (A 56)), (3, .int (nI at')), (4, .ref (A 58)), (5, .int (nI (S 58).length))] [] h := by
  have hB := o.b
  obtain ⟨h66, h256, hp, -, hmz, -⟩ := o.nu
  have hodd := o.odd
  have hbig := o.big
  have b191 : ∀ (R1 : Nat → Nat) (h1 : AH), XW kd A X R1 S O F h1 → FrK K B R R1 S S F F → ¬ (em < mv ∧ Nat.gcd em mv = 1 ∧ rr < mv ∧ Nat.gcd rr mv = 1) →
      XX g MX15_blinds ({ frames := 6, cells := 3, slots := 192, locals := 163 } : Room) Q 2 128 191 [(9, .ref (A 80)), (8, .ref (A K)), (7, .int (if em < mv then 1 else 0)), (6, .int r6), (0, .ref (A B)), (1, .ref a1), (2, .ref (A 56)), (3, .int (nI at')), (4, .ref (A 58)), (5, .int (nI (S 58).length))] [] h1 := by
    intro R1 h1 w1 fr1 nc
    refine X_iconst (pc := 191) (x := 0) dX15_blinds_191 (by decide) ?_
    refine X_istore (pc := 192) (L' := [(10, .int _), (9, .ref _), (8, .ref _), (7, .int _), (6, .int _), (0, .ref _), (1, .ref _), (2, .ref _), (3, .int _), (4, .ref _), (5, .int _)]) dX15_blinds_192 (Nat.le_of_ble_eq_true rfl) rfl ?_
    refine X_iload (pc := 194) 0 dX15_blinds_194 rfl ?_
    refine X_if_ne (pc := 196) 209 dX15_blinds_196 (by decide) (fun c => absurd rfl c) (fun _ => ?_)
    refine X_aload_n (pc := 199) 5 dX15_blinds_199 rfl rfl ?_
    refine X_getfield (pc := 200) dX15_blinds_200 fg_X15_15_10 (o.ob w1) (by first | rfl | assumption) ?_
    refine X_bipush (pc := 203) (x := (-4)) dX15_blinds_203 (by decide) ?_
    refine X_ivr (pc := 205) _ dX15_blinds_205 cv_X15_27_6 (XW.rf w1) rfl (as_ok g w1 (-4)) nX8_as (Nat.le_of_ble_eq_true rfl) (Nat.le_of_ble_eq_true rfl) (Nat.le_of_ble_eq_true rfl) (Nat.le_of_ble_eq_true rfl) (fun r2 h2 q2 => ?_)
    obtain ⟨rfl, w2⟩ := q2
    refine X_athrow (pc := 208) dX15_blinds_208 rfl (Nat.le_of_ble_eq_true rfl) (Nat.le_of_ble_eq_true rfl) ?_
    exact bad R1 S _ _ (fr1.why (-4)) nc (up_same _ _ _) w2
  refine X_iload (pc := 127) 2 dX15_blinds_127 rfl ?_
  by_cases c1 : em < mv
  · rw [if_pos c1]
    rw [if_pos c1] at b191
    refine X_if_eq (pc := 129) 191 dX15_blinds_129 (by decide) (fun z => absurd z (by decide)) (fun _ => ?_)
    have op1 := OpX.n2 w (B + 3) o.x
    rw [hx] at op1
    refine X_aload_n (pc := 132) 4 dX15_blinds_132 rfl rfl ?_
    refine X_getfield (pc := 133) dX15_blinds_133 fg_X15_38_10 (o.ob w) (by first | rfl | assumption) ?_
    refine X_aload_n (pc := 136) 4 dX15_blinds_136 rfl rfl ?_
    refine X_getfield (pc := 137) dX15_blinds_137 fg_X15_57_10 (o.ob w) (by first | rfl | assumption) ?_
    refine X_aload_n (pc := 140) 4 dX15_blinds_140 rfl rfl ?_
    refine X_getfield (pc := 141) dX15_blinds_141 fg_X15_60_10 (o.ob w) (by first | rfl | assumption) ?_
    refine X_ivi (pc := 144) _ dX15_blinds_144 cv_X15_133_4 (MoK.ob o.mo w) rfl (xinvW g w o.mo (B + 4) (St.q o.y) op1 (Or.inl o.y)) nX6_inverse (Nat.le_of_ble_eq_true rfl) (Nat.le_of_ble_eq_true rfl) (Nat.le_of_ble_eq_true rfl) (Nat.le_of_ble_eq_true rfl) (fun r1 h1 q1 => ?_)
    obtain ⟨v1, er1, -, q1⟩ := q1
    obtain ⟨R1, y1, o1, w1⟩ := XW.ab q1
    have fr1 : FrK K B R R1 S S F F := ⟨fun j hj _ => o1 j (by have a := obR_ne hj; omega), fun _ _ => rfl, fun _ _ _ _ => rfl⟩
    by_cases c2 : Nat.gcd em mv = 1
    · rw [if_pos c2] at er1
      subst er1
      refine X_if_eq (pc := 147) 191 dX15_blinds_147 (by decide) (fun z => absurd z (by decide)) (fun _ => ?_)
      have rd := xreadW g w1 o.mo 80 k80 (kb := 56) (nb := 1200) (fr := at' + s) (many := sz) (w1.k 56 (by decide)) (by decide) hT (by omega)
      rw [hrr] at rd
      refine X_aload_n (pc := 150) 4 dX15_blinds_150 rfl rfl ?_
      refine X_getfield (pc := 151) dX15_blinds_151 fg_X15_38_10 (o.ob w1) (by first | rfl | assumption) ?_
      refine X_aload_n (pc := 154) 6 dX15_blinds_154 rfl rfl ?_
      refine X_iload_n (pc := 155) 7 dX15_blinds_155 rfl rfl ?_
      refine X_aload_n (pc := 156) 4 dX15_blinds_156 rfl rfl ?_
      refine X_getfield (pc := 157) dX15_blinds_157 fg_X15_23_10 (o.ob w1) (by first | rfl | assumption) ?_
      refine X_iadd (pc := 160) dX15_blinds_160 ?_
      rw [nI_add]
      refine X_aload_n (pc := 161) 4 dX15_blinds_161 rfl rfl ?_
      refine X_getfield (pc := 162) dX15_blinds_162 fg_X15_19_10 (o.ob w1) (by first | rfl | assumption) ?_
      refine X_aload (pc := 165) 0 dX15_blinds_165 rfl ?_
      refine X_ivi (pc := 167) _ dX15_blinds_167 cv_X15_49_4 (MoK.ob o.mo w1) rfl (rd) nX6_read (Nat.le_of_ble_eq_true rfl) (Nat.le_of_ble_eq_true rfl) (Nat.le_of_ble_eq_true rfl) (Nat.le_of_ble_eq_true rfl) (fun r2 h2 q2 => ?_)
      obtain ⟨er2, q2⟩ := q2
      obtain ⟨R2, z2, o2, w2⟩ := XW.ab q2
      have fr2 : FrK K B R R2 S S F F := fr1.trans ⟨fun j hj _ => o2 j (by have a := obR_ne hj; omega), fun _ _ => rfl, fun _ _ _ _ => rfl⟩
      by_cases c3 : rr < mv
      · rw [if_pos c3] at er2
        subst er2
        refine X_if_eq (pc := 170) 191 dX15_blinds_170 (by decide) (fun z => absurd z (by decide)) (fun _ => ?_)
        have op2 := OpX.n2 w2 80 k80
        rw [z2] at op2
        refine X_aload_n (pc := 173) 4 dX15_blinds_173 rfl rfl ?_
        refine X_getfield (pc := 174) dX15_blinds_174 fg_X15_38_10 (o.ob w2) (by first | rfl | assumption) ?_
        refine X_aload (pc := 177) 0 dX15_blinds_177 rfl ?_
        refine X_aload (pc := 179) 1 dX15_blinds_179 rfl ?_
        refine X_ivi (pc := 181) _ dX15_blinds_181 cv_X15_133_4 (MoK.ob o.mo w2) rfl (xinvW g w2 o.mo K (St.q kK) op2 (Or.inl kK)) nX6_inverse (Nat.le_of_ble_eq_true rfl) (Nat.le_of_ble_eq_true rfl) (Nat.le_of_ble_eq_true rfl) (Nat.le_of_ble_eq_true rfl) (fun r3 h3 q3 => ?_)
        obtain ⟨v3, er3, ev3, q3⟩ := q3
        obtain ⟨R3, y3, o3, w3⟩ := XW.ab q3
        have fr3 : FrK K B R R3 S S F F := fr2.trans ⟨fun j _ hK => o3 j hK, fun _ _ => rfl, fun _ _ _ _ => rfl⟩
        by_cases c4 : Nat.gcd rr mv = 1
        · rw [if_pos c4] at er3
          subst er3
          rw [ev3 c4] at y3
          refine X_if_eq (pc := 184) 191 dX15_blinds_184 (by decide) (fun z => absurd z (by decide)) (fun _ => ?_)
          refine X_iconst (pc := 187) (x := 1) dX15_blinds_187 (by decide) ?_
          refine X_goto (pc := 188) 192 dX15_blinds_188 (by decide) ?_
          refine X_istore (pc := 192) (L' := [(10, .int _), (9, .ref _), (8, .ref _), (7, .int _), (6, .int _), (0, .ref _), (1, .ref _), (2, .ref _), (3, .int _), (4, .ref _), (5, .int _)]) dX15_blinds_192 (Nat.le_of_ble_eq_true rfl) rfl ?_
          refine X_iload (pc := 194) 0 dX15_blinds_194 rfl ?_
          refine X_if_ne (pc := 196) 209 dX15_blinds_196 (by decide) (fun _ => ?_) (fun c => absurd c (by decide))
          have op3 := OpX.n2 w3 80 k80
          rw [o3 _ (by omega), z2] at op3
          refine X_aload_n (pc := 209) 5 dX15_blinds_209 rfl rfl ?_
          refine X_getfield (pc := 210) dX15_blinds_210 fg_X15_38_10 (o.ob w3) (by first | rfl | assumption) ?_
          refine X_aload (pc := 213) 1 dX15_blinds_213 rfl ?_
          refine X_aload (pc := 215) 1 dX15_blinds_215 rfl ?_
          refine X_ivv (pc := 217) _ dX15_blinds_217 cv_X15_137_4 (MoK.ob o.mo w3) rfl (xinW g w3 o.mo 80 (St.q k80) op3) nX6_in (Nat.le_of_ble_eq_true rfl) (Nat.le_of_ble_eq_true rfl) (Nat.le_of_ble_eq_true rfl) (Nat.le_of_ble_eq_true rfl) (fun h4 q4 => ?_)
          obtain ⟨R4, z4, o4, w4⟩ := XW.ab q4
          have op4 := OpX.n2 w4 80 k80
          rw [z4] at op4
          have e9 : R4 (B + 9) = R (B + 9) := by rw [o4 _ (by omega), o3 _ (by omega), o2 _ (by omega), o1 _ (by omega)]
          have oe4 : OpE kd A X R4 S O F (fun j => j == B + 4) (A (B + 9)) 1 (R (B + 9)) := by
            rw [← e9]
            exact OpE.g (mv := mv) (St.q o.po) (by rw [beq_eq_false_iff_ne]; omega)
          refine X_aload_n (pc := 220) 5 dX15_blinds_220 rfl rfl ?_
          refine X_getfield (pc := 221) dX15_blinds_221 fg_X15_38_10 (o.ob w4) (by first | rfl | assumption) ?_
          refine X_aload (pc := 224) 1 dX15_blinds_224 rfl ?_
          refine X_aload_n (pc := 226) 5 dX15_blinds_226 rfl rfl ?_
          refine X_getfield (pc := 227) dX15_blinds_227 fg_X15_42_10 (o.ob w4) (by first | rfl | assumption) ?_
          refine X_aload_n (pc := 230) 5 dX15_blinds_230 rfl rfl ?_
          refine X_getfield (pc := 231) dX15_blinds_231 fg_X15_60_10 (o.ob w4) (by first | rfl | assumption) ?_
          refine X_ivv (pc := 234) _ dX15_blinds_234 cv_X15_141_4 (MoK.ob o.mo w4) rfl (xpowW g w4 o.mo (B + 4) (St.q o.y) op4 (Nat.mod_lt _ (by omega)) oe4 (by decide)) nX6_pow (Nat.le_of_ble_eq_true rfl) (Nat.le_of_ble_eq_true rfl) (Nat.le_of_ble_eq_true rfl) (Nat.le_of_ble_eq_true rfl) (fun h5 q5 => ?_)
          rw [mgm_of hodd, Nat.mod_eq_of_lt c3] at q5
          obtain ⟨R5, y5, o5, w5⟩ := XW.ab q5
          have opx := OpX.n2 w5 (B + 3) o.x
          rw [o5 _ (by omega), o4 _ (by omega), o3 _ (by omega), o2 _ (by omega), o1 _ (by omega), hx] at opx
          have opy := OpX.n2 w5 (B + 4) o.y
          rw [y5] at opy
          refine X_aload_n (pc := 237) 5 dX15_blinds_237 rfl rfl ?_
          refine X_getfield (pc := 238) dX15_blinds_238 fg_X15_38_10 (o.ob w5) (by first | rfl | assumption) ?_
          refine X_aload_n (pc := 241) 5 dX15_blinds_241 rfl rfl ?_
          refine X_getfield (pc := 242) dX15_blinds_242 fg_X15_57_10 (o.ob w5) (by first | rfl | assumption) ?_
          refine X_aload_n (pc := 245) 5 dX15_blinds_245 rfl rfl ?_
          refine X_getfield (pc := 246) dX15_blinds_246 fg_X15_60_10 (o.ob w5) (by first | rfl | assumption) ?_
          refine X_aload_n (pc := 249) 5 dX15_blinds_249 rfl rfl ?_
          refine X_getfield (pc := 250) dX15_blinds_250 fg_X15_63_10 (o.ob w5) (by first | rfl | assumption) ?_
          refine X_ivv (pc := 253) _ dX15_blinds_253 cv_X15_145_4 (MoK.ob o.mo w5) rfl (xmulW g w5 o.mo (B + 5) (St.q o.z) opx opy (Nat.mod_lt _ (by omega))) nX6_mul (Nat.le_of_ble_eq_true rfl) (Nat.le_of_ble_eq_true rfl) (Nat.le_of_ble_eq_true rfl) (Nat.le_of_ble_eq_true rfl) (fun h6 q6 => ?_)
          rw [mgm_half2 hodd] at q6
          obtain ⟨R6, z6, o6, w6⟩ := XW.ab q6
          have opz := OpX.n2 w6 (B + 5) o.z
          rw [z6] at opz
          refine X_aload_n (pc := 256) 5 dX15_blinds_256 rfl rfl ?_
          refine X_getfield (pc := 257) dX15_blinds_257 fg_X15_63_10 (o.ob w6) (by first | rfl | assumption) ?_
          refine X_aload (pc := 260) 9 dX15_blinds_260 rfl ?_
          refine X_iload (pc := 262) 10 dX15_blinds_262 rfl ?_
          refine X_aload_n (pc := 264) 5 dX15_blinds_264 rfl rfl ?_
          refine X_getfield (pc := 265) dX15_blinds_265 fg_X15_19_10 (o.ob w6) (by first | rfl | assumption) ?_
          refine X_isv (pc := 268) _ dX15_blinds_268 cs_X15_124 rfl (xwriteA g w6 opz (kt := 58) (nt := 1200) (many := sz) (w6.k 58 (by decide)) (by omega) (by decide) hl (by omega)) nX6_write (Nat.le_of_ble_eq_true rfl) (Nat.le_of_ble_eq_true rfl) (Nat.le_of_ble_eq_true rfl) (Nat.le_of_ble_eq_true rfl) (fun h7 w7 => ?_)
          refine X_aload (pc := 271) 2 dX15_blinds_271 rfl ?_
          refine X_aret (pc := 273) dX15_blinds_273 rfl (by first | exact Or.inl ⟨_, rfl⟩ | exact Or.inr ⟨_, rfl⟩) (Or.inr ⟨_, rfl⟩) (Nat.le_of_ble_eq_true rfl) (Nat.le_of_ble_eq_true rfl) ?_
          refine good R6 _ _ (fr3.trans ⟨fun j hj _ => ?_, fun j hj => up_ne (obS_ne hj).2.1, fun _ _ _ _ => rfl⟩) ⟨c1, c2, c3, c4⟩ (up_same _ _ _) ?_ w7
          · have a := obR_ne hj
            rw [o6 _ (by omega), o5 _ (by omega), o4 _ (by omega)]
          · rw [o6 _ (by omega), o5 _ (by omega), o4 _ (by omega)]
            exact y3
        · rw [if_neg c4] at er3
          subst er3
          refine X_if_eq (pc := 184) 191 dX15_blinds_184 (by decide) (fun _ => ?_) (fun z => absurd rfl z)
          exact b191 R3 h3 w3 fr3 (fun z => c4 z.2.2.2)
      · rw [if_neg c3] at er2
        subst er2
        refine X_if_eq (pc := 170) 191 dX15_blinds_170 (by decide) (fun _ => ?_) (fun z => absurd rfl z)
        exact b191 R2 h2 w2 fr2 (fun z => c3 z.2.2.1)
    · rw [if_neg c2] at er1
      subst er1
      refine X_if_eq (pc := 147) 191 dX15_blinds_147 (by decide) (fun _ => ?_) (fun z => absurd rfl z)
      exact b191 R1 h1 w1 fr1 (fun z => c2 z.2.1)
  · rw [if_neg c1]
    rw [if_neg c1] at b191
    refine X_if_eq (pc := 129) 191 dX15_blinds_129 (by decide) (fun _ => ?_) (fun z => absurd rfl z)
    exact b191 R h w ⟨fun _ _ _ => rfl, fun _ _ => rfl, fun _ _ _ _ => rfl⟩ (fun z => c1 z.1)
theorem num_zero1 {l l' : List Int32} {n : Nat} (h0 : l.getD 0 0 = 0) (h : ∀ j, j < n → l.getD (1 + j) 0 = l'.getD j 0) : num l 0 (n + 1) = num l' 0 n := by
  show bsm _ (0 + (n + 1)) (n + 1) = bsm _ (0 + n) n
  show bsm (fun q => l.getD q 0) (0 + (n + 1)) n + b8 ((fun q => l.getD q 0) (0 + (n + 1) - 1 - n)) * 256 ^ n = _
  have e1 : (fun q => l.getD q 0) (0 + (n + 1) - 1 - n) = 0 := by
    show l.getD (0 + (n + 1) - 1 - n) 0 = 0
    rw [show 0 + (n + 1) - 1 - n = 0 by omega]
    exact h0
  rw [e1, show b8 0 = 0 from rfl, Nat.zero_mul, Nat.add_zero]
  refine bsm_cg fun j hj => ?_
  show l.getD (0 + (n + 1) - 1 - j) 0 = l'.getD (0 + n - 1 - j) 0
  rw [← h _ (by omega)]
  congr 1
  omega
set_option maxHeartbeats 16000000 in
theorem blindsG_ok (w : XW kd A X R S O F h) (o : SgK kd A O B sz s p mv ng lv) {K ki at' : Nat} (hK : 1000 ≤ K) (hB2 : B + 30 ≤ 1000) (fK : FreeK F K) (zK : (kd K).1 = 0) (z80 : (kd 80).1 = 0) (gw : Gw (TK K) kd A O kd A O) (hki : kd ki = (6, 2, 98)) (hk1 : 1000 ≤ ki) (hBi : IsB (S ki)) (hil : (S ki).length = 98) (hBT : IsB (S 56)) (hT : at' + s + sz ≤ (S 56).length) (hl : (S 58).length + sz ≤ 1200) {em rr : Nat} (hem : num (encL (saltH (S ki) (sub (S 56) at' s)) (sub (S 56) at' s) (dbV mv) s (clr (bitsN mv))) 0 (dbV mv + 49) = em) (hrr : num (S 56) (at' + s) sz = rr) :
    MT g MX15_blinds ({ frames := 6, cells := 3, slots := 192, locals := 163 } : Room) [.ref (A B), .ref (A ki), .ref (A 56), .int (nI at'), .ref (A 58), .int (nI (S 58).length)] h
      (TW (A 50) (RR fun r h' => (em < mv ∧ Nat.gcd em mv = 1 ∧ rr < mv ∧ Nat.gcd rr mv = 1) ∧ ∃ kd' A' R' S' F', Gw (TK K) kd A O kd' A' O ∧ FrK K B R R' S S' F F' ∧ kd' K = (2, 0, p + 1) ∧ A' K = r ∧ R' K = invM mv rr ∧ S' 58 = S 58 ++ byN (rr ^ R (B + 9) * em % mv) sz ∧ XW kd' A' X R' S' O F' h')
        (fun h' => ¬ (em < mv ∧ Nat.gcd em mv = 1 ∧ rr < mv ∧ Nat.gcd rr mv = 1) ∧ ∃ kd' A' R' S' F', Gw (TK K) kd A O kd' A' O ∧ FrK K B R R' S S' F F' ∧ F' 24 = -4 ∧ XW kd' A' X R' S' O F' h')) := by
  refine MT.of (by decide) (Nat.le_of_ble_eq_true rfl) ?_
  have hB := o.b
  obtain ⟨h66, h256, hp, -, hmz, -⟩ := o.nu
  obtain ⟨-, hsz, hsd, hs48, hb2, hb3⟩ := o.db
  have l56 : (S 56).length ≤ 1200 := (w.s 56 (w.k 56 (by decide))).choose_spec.2.2
  generalize hQ : TW (A 50) _ _ = Q
  have en := encodeX_ok g w o (ki := ki) (ni := 98) (fr := 0) (ks := 56) (ns := 1200) (at' := at') hki (by decide) (by omega) hBi (by rw [hil]; decide) (w.k 56 (by decide)) (by decide) (by decide) (by omega) (by omega) hBT (by omega)
  rw [sub_all hil] at en
  generalize hel : encL (saltH (S ki) (sub (S 56) at' s)) (sub (S 56) at' s) (dbV mv) s (clr (bitsN mv)) = el at *
  have lel : el.length = dbV mv + 49 := by
    rw [← hel]
    unfold encL
    rw [List.length_append, List.length_append, List.length_set, emX_len, show (saltH (S ki) (sub (S 56) at' s)).length = 48 from sha384_len _]
    rfl
  refine X_aload_n (pc := 0) 0 dX15_blinds_0 rfl rfl ?_
  refine X_aload_n (pc := 1) 1 dX15_blinds_1 rfl rfl ?_
  refine X_iconst (pc := 2) (x := 0) dX15_blinds_2 (by decide) ?_
  refine X_aload_n (pc := 3) 2 dX15_blinds_3 rfl rfl ?_
  refine X_iload_n (pc := 4) 3 dX15_blinds_4 rfl rfl ?_
  refine X_ivv (pc := 5) _ dX15_blinds_5 cv_X15_128_10 (o.ob w) rfl (en) nX15_encode (Nat.le_of_ble_eq_true rfl) (Nat.le_of_ble_eq_true rfl) (Nat.le_of_ble_eq_true rfl) (Nat.le_of_ble_eq_true rfl) (fun h1 q1 => ?_)
  obtain ⟨S1, F1, fS1, fF1, s71, w1⟩ := q1
  have le := lengthX_ok g w1 o
  generalize hd : dbV mv = db at *
  refine X_aload_n (pc := 8) 0 dX15_blinds_8 rfl rfl ?_
  refine X_getfield (pc := 9) dX15_blinds_9 fg_X15_19_10 (o.ob w1) (by first | rfl | assumption) ?_
  refine X_aload_n (pc := 12) 0 dX15_blinds_12 rfl rfl ?_
  refine X_ivi (pc := 13) _ dX15_blinds_13 cv_X15_112_10 (o.ob w1) rfl (le) nX15_length (Nat.le_of_ble_eq_true rfl) (Nat.le_of_ble_eq_true rfl) (Nat.le_of_ble_eq_true rfl) (Nat.le_of_ble_eq_true rfl) (fun r2 h2 q2 => ?_)
  obtain ⟨rfl, rfl⟩ := q2
  refine X_isub (pc := 16) dX15_blinds_16 ?_
  rw [pk_sub (show db + 49 ≤ sz by omega)]
  generalize hE : el ++ List.replicate (sz - (db + 49)) 0 = E at *
  have lE : E.length = sz := by rw [← hE, List.length_append, lel, List.length_replicate]; omega
  have vE : ∀ j, j < db + 49 → E.getD j 0 = el.getD j 0 := fun j hj => by rw [← hE, getD_app_lt (by omega)]
  generalize hah : sz - (db + 49) = ah at *
  obtain ⟨f7, c7, p7, -⟩ := w1.s (B + 7) o.co
  obtain ⟨f8, c8, p8, -⟩ := w1.s (B + 8) o.ma
  refine X_istore (pc := 17) (L' := [(6, .int _), (0, .ref _), (1, .ref _), (2, .ref _), (3, .int _), (4, .ref _), (5, .int _)]) dX15_blinds_17 (Nat.le_of_ble_eq_true rfl) rfl ?_
  refine X_aload_n (pc := 19) 1 dX15_blinds_19 rfl rfl ?_
  refine X_getfield (pc := 20) dX15_blinds_20 fg_X15_76_10 (o.ob w1) (by first | rfl | assumption) ?_
  refine X_iconst (pc := 23) (x := 0) dX15_blinds_23 (by decide) ?_
  refine X_aload_n (pc := 24) 1 dX15_blinds_24 rfl rfl ?_
  refine X_getfield (pc := 25) dX15_blinds_25 fg_X15_79_10 (o.ob w1) (by first | rfl | assumption) ?_
  refine X_iconst (pc := 28) (x := 0) dX15_blinds_28 (by decide) ?_
  refine X_aload_n (pc := 29) 1 dX15_blinds_29 rfl rfl ?_
  refine X_getfield (pc := 30) dX15_blinds_30 fg_X15_19_10 (o.ob w1) (by first | rfl | assumption) ?_
  refine X_copyI (pc := 33) (0) (0) (sz) dX15_blinds_33 q753 (Or.inr rfl) c7 c8 rfl rfl rfl (by omega) (by omega) ⟨by omega, by omega⟩ (Nat.le_of_ble_eq_true rfl) (Nat.le_of_ble_eq_true rfl) ?_
  have w2 := w1.cpy (ks := B + 7) (ns := sz) (sN := 0) (dN := 0) (n := sz) o.ma p7 p8 (Nat.zero_le _) (by rw [s71, lE]; omega) (by omega)
  rw [List.take_zero, List.nil_append, s71, sub_all lE] at w2
  generalize hset h2 (A (B + 8)) _ = h3 at w2 ⊢
  have s72 : up S1 (B + 8) E (B + 7) = E := by rw [up_ne (by omega)]; exact s71
  have s82 : up S1 (B + 8) E (B + 8) = E := up_same _ _ _
  have fS2 : ∀ j, j ≠ 8 → j ≠ B + 7 → j ≠ B + 8 → up S1 (B + 8) E j = S j := fun j a b c => by rw [up_ne c]; exact fS1 j a b c
  generalize up S1 (B + 8) E = S2 at w2 s72 s82 fS2
  -- behind the shift
  have tail : ∀ (S3 : Nat → List Int32) (h4 : AH) (l : List Int32) {r7 : Int32}, XW kd A X R S3 O F1 h4 → (∀ j, j ≠ 8 → j ≠ B + 7 → j ≠ B + 8 → S3 j = S j) → S3 (B + 7) = l → l.length = sz → (∀ j, j < sz → l.getD j 0 = if j < ah then 0 else E.getD (j - ah) 0) →
      XX g MX15_blinds ({ frames := 6, cells := 3, slots := 192, locals := 163 } : Room) Q 0 0 83 [(7, .int r7), (6, .int (nI ah)), (0, .ref (A B)), (1, .ref (A ki)), (2, .ref (A 56)), (3, .int (nI at')), (4, .ref (A 58)), (5, .int (nI (S 58).length))] [] h4 := by
    intro S3 h4 l r7 w3 fS3 s73 ll vl
    have enum : num l 0 sz = em := by
      rw [← hem]
      by_cases c0 : ah = 0
      · have : sz = db + 49 := by omega
        rw [this]
        exact bsm_cg fun j hj => by
          show l.getD (0 + (db + 49) - 1 - j) 0 = el.getD (0 + (db + 49) - 1 - j) 0
          rw [vl _ (by omega), if_neg (by omega), c0, Nat.sub_zero, vE _ (by omega)]
      · have e1 : ah = 1 := by omega
        have : sz = db + 49 + 1 := by omega
        rw [this]
        refine num_zero1 (by rw [vl 0 (by omega), if_pos (by omega)]) (fun j hj => ?_)
        rw [vl _ (by omega), if_neg (by omega), e1, Nat.add_sub_cancel_left, vE _ hj]
    have rd := xreadW g w3 o.mo (B + 3) o.x (kb := B + 7) (nb := sz) (fr := 0) (many := sz) o.co (by omega) (by rw [s73, ll]; omega) (by omega)
    rw [s73, enum] at rd
    refine X_aload_n (pc := 83) 2 dX15_blinds_83 rfl rfl ?_
    refine X_getfield (pc := 84) dX15_blinds_84 fg_X15_38_10 (o.ob w3) (by first | rfl | assumption) ?_
    refine X_aload_n (pc := 87) 2 dX15_blinds_87 rfl rfl ?_
    refine X_getfield (pc := 88) dX15_blinds_88 fg_X15_76_10 (o.ob w3) (by first | rfl | assumption) ?_
    refine X_iconst (pc := 91) (x := 0) dX15_blinds_91 (by decide) ?_
    refine X_aload_n (pc := 92) 2 dX15_blinds_92 rfl rfl ?_
    refine X_getfield (pc := 93) dX15_blinds_93 fg_X15_19_10 (o.ob w3) (by first | rfl | assumption) ?_
    refine X_aload_n (pc := 96) 2 dX15_blinds_96 rfl rfl ?_
    refine X_getfield (pc := 97) dX15_blinds_97 fg_X15_57_10 (o.ob w3) (by first | rfl | assumption) ?_
    refine X_ivi (pc := 100) _ dX15_blinds_100 cv_X15_49_4 (MoK.ob o.mo w3) rfl (rd) nX6_read (Nat.le_of_ble_eq_true rfl) (Nat.le_of_ble_eq_true rfl) (Nat.le_of_ble_eq_true rfl) (Nat.le_of_ble_eq_true rfl) (fun r4 h5 q4 => ?_)
    obtain ⟨rfl, q4⟩ := q4
    obtain ⟨R4, x4, o4, w4⟩ := XW.ab q4
    refine X_istore (pc := 103) (L' := [(7, .int _), (6, .int _), (0, .ref _), (1, .ref _), (2, .ref _), (3, .int _), (4, .ref _), (5, .int _)]) dX15_blinds_103 (Nat.le_of_ble_eq_true rfl) rfl ?_
    refine X_aload_n (pc := 105) 2 dX15_blinds_105 rfl rfl ?_
    refine X_getfield (pc := 106) dX15_blinds_106 fg_X15_38_10 (o.ob w4) (by first | rfl | assumption) ?_
    refine X_getfield (pc := 109) dX15_blinds_109 fg_X15_131_4 (MoK.ob o.mo w4) (by first | rfl | assumption) ?_
    refine X_new_int (p + 1) (pc := 112) dX15_blinds_112 rfl (by omega) (by dsimp only; omega) (by dsimp only; omega) (fun q hq => ?_)
    obtain ⟨kd5, A5, eK5, aK5, n5, g5, w5⟩ := w4.growN (k := K) (n := p + 1) hq zK (by
      obtain ⟨a, b, c⟩ := fK
      exact ⟨a, by rw [fF1 30 (by decide) (by decide)]; exact b, by rw [fF1 31 (by decide) (by decide)]; exact c⟩)
    have G5 := g5 (TK K) kd A O gw (TK_k K)
    have o5 := o.gw G5 (fun j hj => TK_f (by omega) (by omega))
    generalize hset h5 q _ = h6 at w5 ⊢
    have aa5 : ∀ j, j ≠ K → A j = A5 j := fun j hj => (n5 j hj).2.symm
    refine X_astore (pc := 114) (L' := [(8, .ref _), (7, .int _), (6, .int _), (0, .ref _), (1, .ref _), (2, .ref _), (3, .int _), (4, .ref _), (5, .int _)]) dX15_blinds_114 (Nat.le_of_ble_eq_true rfl) rfl ?_
    rw [aa5 B (by omega)]
    refine X_aload_n (pc := 116) 3 dX15_blinds_116 rfl rfl ?_
    refine X_getfield (pc := 117) dX15_blinds_117 fg_X15_38_10 (o5.ob w5) (by first | rfl | assumption) ?_
    refine X_getfield (pc := 120) dX15_blinds_120 fg_X15_131_4 (MoK.ob o5.mo w5) (by first | rfl | assumption) ?_
    refine X_new_int (p + 1) (pc := 123) dX15_blinds_123 rfl (by omega) (by dsimp only; omega) (by dsimp only; omega) (fun q2 hq2 => ?_)
    obtain ⟨kd6, A6, e806, a806, n6, g6, w6⟩ := w5.growN (k := 80) (n := p + 1) hq2 (by rw [(n5 80 (by omega)).1]; exact z80) (freeT (by decide) (by decide))
    have G6 := g6 (TK K) kd A O G5 (TK_t (by decide))
    have o6 := o.gw G6 (fun j hj => TK_f (by omega) (by omega))
    generalize hset h6 q2 _ = h7 at w6 ⊢
    have aa6 : ∀ j, j ≠ 80 → A5 j = A6 j := fun j hj => (n6 j hj).2.symm
    have a8 : A6 K = q := by rw [← aa6 K (by omega)]; exact aK5
    have e58 : S3 58 = S 58 := fS3 58 (by decide) (by omega) (by omega)
    have e56 : S3 56 = S 56 := fS3 56 (by decide) (by omega) (by omega)
    refine X_astore (pc := 125) (L' := [(9, .ref _), (8, .ref _), (7, .int _), (6, .int _), (0, .ref _), (1, .ref _), (2, .ref _), (3, .int _), (4, .ref _), (5, .int _)]) dX15_blinds_125 (Nat.le_of_ble_eq_true rfl) rfl ?_
    rw [← a806, ← a8, aa6 B (by omega), show A 56 = A6 56 by rw [aa5 56 (by omega), aa6 56 (by omega)], show A 58 = A6 58 by rw [aa5 58 (by omega), aa6 58 (by omega)], ← e58]
    refine XX.wide (k' := 2) (n' := 128) (by dsimp only; omega) (by dsimp only; omega) ?_
    have frB : FrK K B R (up (up R4 K 0) 80 0) S S3 F F1 := ⟨fun j hj hK => by have a := obR_ne hj; rw [up_ne (by omega), up_ne hK, o4 j (by omega)], fun j hj => by have a := obS_ne hj; exact fS3 j (fun z => by rw [z] at a; exact absurd a.1 (by decide)) (by omega) (by omega), fun j a b _ => fF1 j a b⟩
    have e9 : up (up R4 K 0) 80 0 (B + 9) = R (B + 9) := by rw [up_ne (by omega), up_ne (by omega), o4 _ (by omega)]
    have g50 : A6 50 = A 50 := (G6.1 50 (TK_f (by decide) (by omega))).2.1
    refine blindsG2 w6 o6 hK hB2 (by rw [(n6 K (by omega)).1]; exact eK5) e806 (em := em) (rr := rr) (by rw [up_ne (by omega), up_ne (by omega)]; exact x4) (by rw [e56]; exact hT) (by rw [e56]; exact hrr) (by rw [e58]; exact hl) (fun R' S' h' fr c s' k' w' => ?_) (fun R' S' F' h' fr c f' w' => ?_)
    · rw [e58, e9] at s'
      rw [← hQ]
      exact Or.inl ⟨_, rfl, c, kd6, A6, R', S', F1, G6, frB.trans fr, by rw [(n6 K (by omega)).1]; exact eK5, rfl, k', s', w'⟩
    · rw [← hQ]
      exact Or.inr ⟨congrArg Outcome.threw g50, c, kd6, A6, R', S', F', G6, frB.trans fr, f', w'⟩
  have loop : ∀ i, i ≤ sz → ∀ (S3 : Nat → List Int32) (h4 : AH) (l : List Int32), XW kd A X R S3 O F1 h4 → (∀ j, j ≠ 8 → j ≠ B + 7 → j ≠ B + 8 → S3 j = S j) → S3 (B + 8) = E → S3 (B + 7) = l → l.length = sz → (∀ j, j < sz → l.getD j 0 = if j < i then E.getD j 0 else if j < ah then 0 else E.getD (j - ah) 0) →
      XX g MX15_blinds ({ frames := 6, cells := 3, slots := 192, locals := 163 } : Room) Q 0 0 44 [(7, .int (nI i - 1)), (6, .int (nI ah)), (0, .ref (A B)), (1, .ref (A ki)), (2, .ref (A 56)), (3, .int (nI at')), (4, .ref (A 58)), (5, .int (nI (S 58).length))] [] h4 := by
    intro i
    induction i with
    | zero =>
      intro hi S3 h4 l w3 fS3 s83 s73 ll vl
      refine X_iload (pc := 44) 0 dX15_blinds_44 rfl ?_
      refine X_if_lt (pc := 46) 83 dX15_blinds_46 (by decide) (fun _ => ?_) (fun c => absurd (show nI 0 - 1 < 0 by decide) c)
      refine tail S3 h4 l w3 fS3 s73 ll (fun j hj => ?_)
      rw [vl j hj, if_neg (Nat.not_lt_zero j)]
    | succ i ih =>
      intro hi S3 h4 l w3 fS3 s83 s73 ll vl
      obtain ⟨g7, d7, q7, -⟩ := w3.s (B + 7) o.co
      rw [s73] at q7
      have bi : vp_in (nI i) sz := vp_in_nI (by omega) (by omega)
      have ci : (nI i).toNatClampNeg = i := nI_clamp (by omega)
      have i0 : ¬ nI i < 0 := nI_pos (by omega)
      have step : ∀ x : Int32, tb (u32 x) = x → x = (if i < ah then 0 else E.getD (i - ah) 0) → XX g MX15_blinds ({ frames := 6, cells := 3, slots := 192, locals := 163 } : Room) Q 0 0 76 [(7, .int (nI i)), (6, .int (nI ah)), (0, .ref (A B)), (1, .ref (A ki)), (2, .ref (A 56)), (3, .int (nI at')), (4, .ref (A 58)), (5, .int (nI (S 58).length))] [.int x, .int (nI i), .ref (A (B + 7))] h4 := by
        intro x hxB hx
        refine X_bastore (pc := 76) dX15_blinds_76 d7 bi ?_
        rw [ci, toInt8_low, hxB]
        have w4 := w3.setS (B + 7) o.co (PL_set q7 i x) (by rw [List.length_set, ll]; exact Nat.le_refl _)
        refine X_iinc (pc := 77) (L' := [(7, .int (_ + (-1))), (6, .int _), (0, .ref _), (1, .ref _), (2, .ref _), (3, .int _), (4, .ref _), (5, .int _)]) 0 dX15_blinds_77 rfl rfl (Nat.le_of_ble_eq_true rfl) rfl ?_
        refine X_goto (pc := 80) 44 dX15_blinds_80 (by decide) ?_
        rw [show nI i + (-1) = nI i - 1 from (Int32.sub_eq_add_neg _ _).symm]
        refine ih (by omega) _ _ (l.set i x) w4 (fun j a b c => by rw [up_ne b]; exact fS3 j a b c) (by rw [up_ne (by omega)]; exact s83) (up_same _ _ _) (by rw [List.length_set]; exact ll) (fun j hj => ?_)
        rw [set_at (by omega)]
        by_cases ej : j = i
        · rw [if_pos ej, if_neg (by omega), ej, hx]
        · rw [if_neg ej, vl j hj]
          by_cases c : j < i
          · rw [if_pos c, if_pos (by omega)]
          · rw [if_neg c, if_neg (by omega)]
      rw [nI_pred]
      refine X_iload (pc := 44) 0 dX15_blinds_44 rfl ?_
      refine X_if_lt (pc := 46) 83 dX15_blinds_46 (by decide) (fun c => absurd c i0) (fun _ => ?_)
      refine X_aload_n (pc := 49) 2 dX15_blinds_49 rfl rfl ?_
      refine X_getfield (pc := 50) dX15_blinds_50 fg_X15_76_10 (o.ob w3) (by first | rfl | assumption) ?_
      refine X_iload (pc := 53) 0 dX15_blinds_53 rfl ?_
      refine X_iload (pc := 55) 0 dX15_blinds_55 rfl ?_
      refine X_iload (pc := 57) 1 dX15_blinds_57 rfl ?_
      by_cases c : i < ah
      · refine X_icmp_ge (pc := 59) 66 dX15_blinds_59 (by decide) (fun z => absurd z (nI_ge (by omega) (by omega))) (fun _ => ?_)
        refine X_iconst (pc := 62) (x := 0) dX15_blinds_62 (by decide) ?_
        refine X_goto (pc := 63) 76 dX15_blinds_63 (by decide) ?_
        exact step 0 (by decide) (by rw [if_pos c])
      · refine X_icmp_ge (pc := 59) 66 dX15_blinds_59 (by decide) (fun _ => ?_) (fun z => absurd (nI_le (a := ah) (b := i) (by omega) (by omega)) z)
        obtain ⟨g8, d8, q8, -⟩ := w3.s (B + 8) o.ma
        rw [s83] at q8
        have ba : vp_in (nI (i - ah)) sz := vp_in_nI (by omega) (by omega)
        have ca : (nI (i - ah)).toNatClampNeg = i - ah := nI_clamp (by omega)
        refine X_aload_n (pc := 66) 2 dX15_blinds_66 rfl rfl ?_
        refine X_getfield (pc := 67) dX15_blinds_67 fg_X15_79_10 (o.ob w3) (by first | rfl | assumption) ?_
        refine X_iload (pc := 70) 0 dX15_blinds_70 rfl ?_
        refine X_iload (pc := 72) 1 dX15_blinds_72 rfl ?_
        refine X_isub (pc := 74) dX15_blinds_74 ?_
        rw [pk_sub (show ah ≤ i by omega)]
        refine X_baload (pc := 75) dX15_blinds_75 d8 ba ?_
        rw [ca, q8 _ (by omega)]
        refine step _ ?_ (by rw [if_neg c])
        rw [← hE]
        by_cases c9 : i - ah < el.length
        · rw [getD_app_lt c9, ← hel]
          refine IsB.at' (l := encL _ _ _ _ _) ?_ _
          unfold encL
          exact (((emX_B _ _ _ _).set _ _).app (sha384_B _)).app (by intro x hx; rw [List.mem_singleton] at hx; rw [hx]; exact tb_tb _)
        · rw [getD_app_ge (by omega), rep_at]
          decide
  refine X_aload_n (pc := 36) 1 dX15_blinds_36 rfl rfl ?_
  refine X_getfield (pc := 37) dX15_blinds_37 fg_X15_19_10 (o.ob w2) (by first | rfl | assumption) ?_
  refine X_iconst (pc := 40) (x := 1) dX15_blinds_40 (by decide) ?_
  refine X_isub (pc := 41) dX15_blinds_41 ?_
  refine X_istore (pc := 42) (L' := [(7, .int _), (6, .int _), (0, .ref _), (1, .ref _), (2, .ref _), (3, .int _), (4, .ref _), (5, .int _)]) dX15_blinds_42 (Nat.le_of_ble_eq_true rfl) rfl ?_
  exact loop sz (Nat.le_refl _) S2 h3 E w2 fS2 s82 s72 lE (fun j hj => by rw [if_pos hj])
end XSg6
