set_option maxRecDepth 100000
/-! INVERSES under an odd modulus, by halving -/
theorem cancel2 {m x y : Nat} (hm : m % 2 = 1) (h : 2 * x % m = 2 * y % m) : x % m = y % m := by
  have e : ∀ z : Nat, z % m = 2 * z % m * ((m + 1) / 2) % m := by
    intro z
    rw [Nat.mod_mul_mod]
    have : 2 * z * ((m + 1) / 2) = z + m * z := by
      have e1 : 2 * ((m + 1) / 2) = m + 1 := by omega
      calc 2 * z * ((m + 1) / 2) = z * (2 * ((m + 1) / 2)) := by rw [Nat.mul_comm 2 z, Nat.mul_assoc]
        _ = z + m * z := by rw [e1, Nat.mul_add, Nat.mul_one, Nat.mul_comm z m, Nat.add_comm]
    rw [this, Nat.add_mul_mod_self_left]
  rw [e x, e y, h]
theorem mod_sub_add {m x : Nat} (y : Nat) (h : y ≤ x) : x % m = ((x - y) % m + y % m) % m := by
  rw [← Nat.add_mod, Nat.sub_add_cancel h]
/-- what both algorithms keep -/
def IvI (m a l r o t : Nat) : Prop := a * o % m = l % m ∧ a * t % m = r % m ∧ o < m ∧ t < m ∧ r % 2 = 1 ∧ Nat.gcd l r = Nat.gcd a m
theorem IvI.init {m a : Nat} (hm : m % 2 = 1) (h1 : 1 < m) : IvI m a a m 1 0 :=
  ⟨by rw [Nat.mul_one], by rw [Nat.mul_zero, Nat.zero_mod, Nat.mod_self], h1, by omega, hm, rfl⟩
theorem gcd_half {l r : Nat} (hl : l % 2 = 0) (hr : r % 2 = 1) : Nat.gcd (l / 2) r = Nat.gcd l r := by
  have hc : Nat.Coprime 2 r := by
    rw [Nat.coprime_iff_gcd_eq_one, Nat.gcd_rec, hr, Nat.gcd_one_left]
  have e : l = 2 * (l / 2) := by omega
  have := hc.gcd_mul_left_cancel (l / 2)
  rw [← e] at this
  exact this.symm
theorem IvI.half {m a l r o t : Nat} (hm : m % 2 = 1) (h : IvI m a l r o t) (hl : l % 2 = 0) : IvI m a (l / 2) r (hvN m o) t := by
  obtain ⟨h1, h2, h3, h4, h5, h6⟩ := h
  refine ⟨cancel2 hm ?_, h2, hvN_lt hm h3, h4, h5, by rw [gcd_half hl h5, h6]⟩
  have e : 2 * (l / 2) = l := by omega
  rw [e, ← h1]
  unfold hvN
  split
  · rename_i c
    rw [Nat.mul_left_comm]
    congr 2
    omega
  · rename_i c
    have e2 : 2 * ((o + m) / 2) = o + m := by omega
    rw [Nat.mul_left_comm, e2, Nat.mul_add, Nat.add_mul_mod_self_right]
def sbN (m x y : Nat) : Nat := (x + (m - y)) % m
theorem IvI.sub {m a l r o t : Nat} (h : IvI m a l r o t) (hl : r ≤ l) : IvI m a (l - r) r (sbN m o t) t := by
  obtain ⟨h1, h2, h3, h4, h5, h6⟩ := h
  refine ⟨?_, h2, Nat.mod_lt _ (by omega), h4, h5, by rw [← h6, Nat.gcd_sub_self_left hl]⟩
  unfold sbN
  rw [Nat.mul_mod_mod]
  -- a (o + m - t) + r = l
  have key : (a * (o + (m - t)) + r) % m = ((l - r) + r) % m := by
    rw [Nat.sub_add_cancel hl, ← h1, Nat.add_mod, ← h2, ← Nat.add_mod, ← Nat.mul_add]
    have e : o + (m - t) + t = o + m := by omega
    rw [e, Nat.mul_add, Nat.add_mul_mod_self_right]
  -- cancel r
  have e1 : ∀ z : Nat, z % m = ((z + r) % m + (m - r % m)) % m := by
    intro z
    have hrm := Nat.mod_lt r (show 0 < m by omega)
    rw [Nat.mod_add_mod, Nat.add_assoc, Nat.add_mod z]
    have : (r + (m - r % m)) % m = 0 := by
      have := Nat.div_add_mod r m
      rw [show r + (m - r % m) = m * (r / m) + m by omega, Nat.mul_add_mod, Nat.mod_self]
    rw [this, Nat.add_zero, Nat.mod_mod]
  rw [e1, key, ← e1]
theorem IvI.swap {m a l r o t : Nat} (h : IvI m a l r o t) (hl : l % 2 = 1) : IvI m a r l t o := by
  obtain ⟨h1, h2, h3, h4, h5, h6⟩ := h
  exact ⟨h2, h1, h4, h3, hl, by rw [Nat.gcd_comm, h6]⟩
noncomputable def invM (m a : Nat) : Nat := Classical.epsilon (fun b => b < m ∧ a * b % m = 1 % m)
theorem invM_eq {m a b : Nat} (hb : b < m) (h : a * b % m = 1 % m) : invM m a = b := by
  have hs : invM m a < m ∧ a * invM m a % m = 1 % m := Classical.epsilon_spec (p := fun b => b < m ∧ a * b % m = 1 % m) ⟨b, hb, h⟩
  generalize invM m a = c at hs
  obtain ⟨hc, h2⟩ := hs
  have e1 : c % m = c * (a * b) % m := by rw [Nat.mul_mod, h, ← Nat.mul_mod, Nat.mul_one]
  have e2 : c * (a * b) % m = b % m := by
    rw [show c * (a * b) = a * c * b by rw [Nat.mul_left_comm, Nat.mul_assoc], Nat.mul_mod, h2, ← Nat.mul_mod, Nat.one_mul]
  rw [e2, Nat.mod_eq_of_lt hc, Nat.mod_eq_of_lt hb] at e1
  exact e1
/-- four arrays apart -/
def W4 (h : AH) (al ar ao ai : Nat) (L R O T : Nat → Int32) (h' : AH) : Prop := h' al = some (Ai false 0 64 L) ∧ h' ar = some (Ai false 0 64 R) ∧ h' ao = some (Ai false 0 64 O) ∧ h' ai = some (Ai false 0 64 T) ∧ ∀ x, x ≠ al → x ≠ ar → x ≠ ao → x ≠ ai → h' x = h x
def D4 (al ar ao ai : Nat) : Prop := al ≠ ar ∧ al ≠ ao ∧ al ≠ ai ∧ ar ≠ ao ∧ ar ≠ ai ∧ ao ≠ ai
theorem W4.sl {h h' : AH} {al ar ao ai : Nat} {L R O T : Nat → Int32} (d : D4 al ar ao ai) (w : W4 h al ar ao ai L R O T h') (f : Nat → Int32) : W4 h al ar ao ai f R O T (hset h' al (Ai false 0 64 f)) := by
  obtain ⟨d1, d2, d3, d4, d5, d6⟩ := d
  exact ⟨hset_self _ _ _, by rw [hset_ne d1.symm]; exact w.2.1, by rw [hset_ne d2.symm]; exact w.2.2.1, by rw [hset_ne d3.symm]; exact w.2.2.2.1, fun x a b c e => by rw [hset_ne a]; exact w.2.2.2.2 x a b c e⟩
theorem W4.sr {h h' : AH} {al ar ao ai : Nat} {L R O T : Nat → Int32} (d : D4 al ar ao ai) (w : W4 h al ar ao ai L R O T h') (f : Nat → Int32) : W4 h al ar ao ai L f O T (hset h' ar (Ai false 0 64 f)) := by
  obtain ⟨d1, d2, d3, d4, d5, d6⟩ := d
  exact ⟨by rw [hset_ne d1]; exact w.1, hset_self _ _ _, by rw [hset_ne d4.symm]; exact w.2.2.1, by rw [hset_ne d5.symm]; exact w.2.2.2.1, fun x a b c e => by rw [hset_ne b]; exact w.2.2.2.2 x a b c e⟩
theorem W4.so {h h' : AH} {al ar ao ai : Nat} {L R O T : Nat → Int32} (d : D4 al ar ao ai) (w : W4 h al ar ao ai L R O T h') (f : Nat → Int32) : W4 h al ar ao ai L R f T (hset h' ao (Ai false 0 64 f)) := by
  obtain ⟨d1, d2, d3, d4, d5, d6⟩ := d
  exact ⟨by rw [hset_ne d2]; exact w.1, by rw [hset_ne d4]; exact w.2.1, hset_self _ _ _, by rw [hset_ne d6.symm]; exact w.2.2.2.1, fun x a b c e => by rw [hset_ne c]; exact w.2.2.2.2 x a b c e⟩
theorem W4.st {h h' : AH} {al ar ao ai : Nat} {L R O T : Nat → Int32} (d : D4 al ar ao ai) (w : W4 h al ar ao ai L R O T h') (f : Nat → Int32) : W4 h al ar ao ai L R O f (hset h' ai (Ai false 0 64 f)) := by
  obtain ⟨d1, d2, d3, d4, d5, d6⟩ := d
  exact ⟨by rw [hset_ne d3]; exact w.1, by rw [hset_ne d5]; exact w.2.1, by rw [hset_ne d6]; exact w.2.2.1, hset_self _ _ _, fun x a b c e => by rw [hset_ne e]; exact w.2.2.2.2 x a b c e⟩
theorem W4.eq {h h' : AH} {al ar ao ai : Nat} {L R O T : Nat → Int32} (d : D4 al ar ao ai) (w : W4 h al ar ao ai L R O T h') : h' = hset (hset (hset (hset h al (Ai false 0 64 L)) ar (Ai false 0 64 R)) ao (Ai false 0 64 O)) ai (Ai false 0 64 T) := by
  obtain ⟨d1, d2, d3, d4, d5, d6⟩ := d
  funext x
  by_cases e1 : x = ai
  · subst e1; rw [hset_self]; exact w.2.2.2.1
  · rw [hset_ne e1]
    by_cases e2 : x = ao
    · subst e2; rw [hset_self]; exact w.2.2.1
    · rw [hset_ne e2]
      by_cases e3 : x = ar
      · subst e3; rw [hset_self]; exact w.2.1
      · rw [hset_ne e3]
        by_cases e4 : x = al
        · subst e4; rw [hset_self]; exact w.1
        · rw [hset_ne e4]; exact w.2.2.2.2 x e4 e3 e2 e1
set_option maxHeartbeats 8000000 in
theorem minv_ok (g : GX) {h : AH} {M0 M am ah a to n N na no al ar ao ai : Nat} {s : Int32} {fl : List Value} {ra : Bool} {fm fa fo L0 R0 O0 T0 : Nat → Int32} (hO : h M0 = some (Ob 11 fl)) (hM : h M = some (Ob 12 [.ref am, .ref ah, .int (nI n), .int s])) (hm : h am = some (Ai false 0 N fm)) (ha : h a = some (Ai ra 0 na fa)) (ho : h to = some (Ai false 0 no fo))
    (f5 : fl[5]? = some (.ref al)) (f6 : fl[6]? = some (.ref ar)) (f7 : fl[7]? = some (.ref ao)) (f8 : fl[8]? = some (.ref ai)) (d : D4 al ar ao ai) (w0 : W4 h al ar ao ai L0 R0 O0 T0 h)
    (ea : a ≠ al ∧ a ≠ ar ∧ a ≠ ao ∧ a ≠ ai) (eo : to ≠ al ∧ to ≠ ar ∧ to ≠ ao ∧ to ≠ ai) (em : am ≠ al ∧ am ≠ ar ∧ am ≠ ao ∧ am ≠ ai) (h0 : 0 < n) (h64 : n ≤ 64) (hs : n ≤ N ∧ n ≤ na ∧ n ≤ no) (hl : N < 2 ^ 31 ∧ na < 2 ^ 31 ∧ no < 2 ^ 31) (hodd : V n fm % 2 = 1) (h1 : 1 < V n fm) :
    MT g MX10_inverse ({ frames := 3, cells := 0, slots := 0, locals := 70 } : Room) [.ref M0, .ref M, .ref a, .ref to] h (RI fun r h' => ∃ (L R O T f : Nat → Int32), r = (if Nat.gcd (V n fa) (V n fm) = 1 then 1 else 0) ∧ (Nat.gcd (V n fa) (V n fm) = 1 → V n f = invM (V n fm) (V n fa)) ∧ V n f < V n fm ∧ (∀ j, n ≤ j → f j = fo j) ∧ h' = hset (hset (hset (hset (hset h al (Ai false 0 64 L)) ar (Ai false 0 64 R)) ao (Ai false 0 64 O)) ai (Ai false 0 64 T)) to (Ai false 0 no f)) := by
  refine MT.of (by decide) (Nat.le_of_ble_eq_true rfl) ?_
  generalize hvm : V n fm = mv at *
  generalize hva : V n fa = va at *
  -- what lies outside
  have out0 : ∀ {L R O T : Nat → Int32} {h' : AH}, W4 h al ar ao ai L R O T h' → h' M0 = some (Ob 11 fl) ∧ h' M = some (Ob 12 [.ref am, .ref ah, .int (nI n), .int s]) ∧ h' am = some (Ai false 0 N fm) ∧ h' a = some (Ai ra 0 na fa) ∧ h' to = some (Ai false 0 no fo) := by
    intro L R O T h' w
    refine ⟨?_, ?_, ?_, ?_, ?_⟩
    · rw [w.2.2.2.2 M0 (ne_of hO w0.1 (fun e => by cases e)) (ne_of hO w0.2.1 (fun e => by cases e)) (ne_of hO w0.2.2.1 (fun e => by cases e)) (ne_of hO w0.2.2.2.1 (fun e => by cases e))]; exact hO
    · rw [w.2.2.2.2 M (ne_of hM w0.1 (fun e => by cases e)) (ne_of hM w0.2.1 (fun e => by cases e)) (ne_of hM w0.2.2.1 (fun e => by cases e)) (ne_of hM w0.2.2.2.1 (fun e => by cases e))]; exact hM
    · rw [w.2.2.2.2 am em.1 em.2.1 em.2.2.1 em.2.2.2]; exact hm
    · rw [w.2.2.2.2 a ea.1 ea.2.1 ea.2.2.1 ea.2.2.2]; exact ha
    · rw [w.2.2.2.2 to eo.1 eo.2.1 eo.2.2.1 eo.2.2.2]; exact ho
  have Z : vp_in (0 : Int32) 64 := vp_in_nI (n := 0) (by omega) (by omega)
  have c0 : (0 : Int32).toNatClampNeg = 0 := rfl
  -- the last loop, and the end
  have fin : ∀ (L R O T : Nat → Int32) (h' : AH), W4 h al ar ao ai L R O T h' → V n L = 0 → IvI mv va (V n L) (V n R) (V n O) (V n T) →
      XX g MX10_inverse ({ frames := 3, cells := 0, slots := 0, locals := 70 } : Room) (RI fun r h' => ∃ (L R O T f : Nat → Int32), r = (if Nat.gcd va mv = 1 then 1 else 0) ∧ (Nat.gcd va mv = 1 → V n f = invM mv va) ∧ V n f < mv ∧ (∀ j, n ≤ j → f j = fo j) ∧ h' = hset (hset (hset (hset (hset h al (Ai false 0 64 L)) ar (Ai false 0 64 R)) ao (Ai false 0 64 O)) ai (Ai false 0 64 T)) to (Ai false 0 no f)) 0 0 176 [(4, .int (nI n)), (0, .ref M0), (1, .ref M), (2, .ref a), (3, .ref to)] [] h' := by
    intro L R O T h' w hL0 hI
    obtain ⟨o1, o2, o3, o4, o5⟩ := out0 w
    have hgr : Nat.gcd va mv = V n R := by rw [← hI.2.2.2.2.2, hL0, Nat.gcd_zero_left]
    have R1 : ∀ k, 0 < k → k ≤ n → (V k R = 1 ↔ R 0 = 1 ∧ ∀ j, 1 ≤ j → j < k → R j = 0) := by
      intro k
      induction k with
      | zero => intro z; omega
      | succ k ih =>
        intro _ hk
        by_cases e : k = 0
        · subst e
          have e1 : V (0 + 1) R = u32 (R 0) := by show 0 + u32 (R 0) * 2 ^ (32 * 0) = _; omega
          rw [e1]
          constructor
          · intro z; exact ⟨u32_inj (by rw [z]; rfl), fun j a b => by omega⟩
          · intro z; rw [z.1]; rfl
        · have ihk := ih (by omega) (by omega)
          have hp : 2 ^ 32 ≤ 2 ^ (32 * k) := Nat.pow_le_pow_right (by decide) (by omega)
          show V k R + u32 (R k) * 2 ^ (32 * k) = 1 ↔ _
          constructor
          · intro z
            have hz : u32 (R k) = 0 := by
              rcases Nat.eq_zero_or_pos (u32 (R k)) with q | q
              · exact q
              · have := Nat.le_mul_of_pos_left (2 ^ (32 * k)) q
                omega
            rw [hz, Nat.zero_mul, Nat.add_zero] at z
            obtain ⟨z1, z2⟩ := ihk.mp z
            refine ⟨z1, fun j a b => ?_⟩
            by_cases ej : j = k
            · subst ej; exact u32_0.mp hz
            · exact z2 j a (by omega)
          · intro z
            rw [ihk.mpr ⟨z.1, fun j a b => z.2 j a (by omega)⟩, u32_0.mpr (z.2 k (by omega) (by omega)), Nat.zero_mul]
    have loop := loop_up (P := fun k => 1 ≤ k → XX g MX10_inverse ({ frames := 3, cells := 0, slots := 0, locals := 70 } : Room) (RI fun r h' => ∃ (L R O T f : Nat → Int32), r = (if Nat.gcd va mv = 1 then 1 else 0) ∧ (Nat.gcd va mv = 1 → V n f = invM mv va) ∧ V n f < mv ∧ (∀ j, n ≤ j → f j = fo j) ∧ h' = hset (hset (hset (hset (hset h al (Ai false 0 64 L)) ar (Ai false 0 64 R)) ao (Ai false 0 64 O)) ai (Ai false 0 64 T)) to (Ai false 0 no f)) 0 0 196 [(6, .int (nI k)), (5, .int (if V k R = 1 then 1 else 0)), (4, .int (nI n)), (0, .ref M0), (1, .ref M), (2, .ref a), (3, .ref to)] [] h') n
      (by
        intro _
        refine X_iload (pc := 196) 0 dX10_inverse_196 rfl ?_
        refine X_iload (pc := 198) 2 dX10_inverse_198 rfl ?_
        refine X_cge (pc := 200) 231 dX10_inverse_200 (by decide) (by omega) (Nat.le_refl n) (fun _ => ?_) (fun c => absurd c (Nat.lt_irrefl _))
        refine X_aload_n (pc := 231) 3 dX10_inverse_231 rfl rfl ?_
        refine X_getfield (pc := 232) dX10_inverse_232 fg_X10_119_11 o1 f8 ?_
        refine X_aload_n (pc := 235) 6 dX10_inverse_235 rfl rfl ?_
        refine X_iload (pc := 236) 2 dX10_inverse_236 rfl ?_
        refine X_isv (pc := 238) _ dX10_inverse_238 cs_X10_91 rfl (mcopy_ok g w.2.2.2.1 o5 h64 hs.2.2 ⟨by decide, hl.2.2⟩) nX10_copy (Nat.le_of_ble_eq_true rfl) (Nat.le_of_ble_eq_true rfl) (Nat.le_of_ble_eq_true rfl) (Nat.le_of_ble_eq_true rfl) (fun h1 q1 => ?_)
        subst q1
        refine X_iload (pc := 241) 1 dX10_inverse_241 rfl ?_
        rw [hgr.symm]
        refine X_zreturn (pc := 243) dX10_inverse_243 rfl (by first | exact Or.inl rfl | exact Or.inr rfl | assumption | exact zo_if) (Nat.le_of_ble_eq_true rfl) (Nat.le_of_ble_eq_true rfl) ?_
        refine ⟨_, rfl, L, R, O, T, cpN n T fo, rfl, fun hg => ?_, ?_, fun j hj => cpN_at hj, ?_⟩
        · rw [cpN_V]
          symm
          exact invM_eq hI.2.2.2.1 (by rw [hI.2.1, ← hgr, hg])
        · rw [cpN_V]; exact hI.2.2.2.1
        · rw [← w.eq d])
      (fun k hk ih hk1 => by
        have ck : (nI k).toNatClampNeg = k := nI_clamp (by omega)
        have b1 : vp_in (nI k) 64 := vp_in_nI (by omega) (by omega)
        have fin2 : ∀ x : Int32, x = (if V (k + 1) R = 1 then 1 else 0) → XX g MX10_inverse ({ frames := 3, cells := 0, slots := 0, locals := 70 } : Room) (RI fun r h' => ∃ (L R O T f : Nat → Int32), r = (if Nat.gcd va mv = 1 then 1 else 0) ∧ (Nat.gcd va mv = 1 → V n f = invM mv va) ∧ V n f < mv ∧ (∀ j, n ≤ j → f j = fo j) ∧ h' = hset (hset (hset (hset (hset h al (Ai false 0 64 L)) ar (Ai false 0 64 R)) ao (Ai false 0 64 O)) ai (Ai false 0 64 T)) to (Ai false 0 no f)) 0 0 223 [(6, .int (nI k)), (5, .int (if V k R = 1 then 1 else 0)), (4, .int (nI n)), (0, .ref M0), (1, .ref M), (2, .ref a), (3, .ref to)] [.int x] h' := by
          intro x hx
          subst hx
          refine X_istore (pc := 223) (L' := [(5, .int _), (6, .int _), (4, .int _), (0, .ref _), (1, .ref _), (2, .ref _), (3, .ref _)]) dX10_inverse_223 (Nat.le_of_ble_eq_true rfl) rfl ?_
          refine X_iinc (pc := 225) (L' := [(6, .int (_ + 1)), (5, .int _), (4, .int _), (0, .ref _), (1, .ref _), (2, .ref _), (3, .ref _)]) 1 dX10_inverse_225 rfl rfl (Nat.le_of_ble_eq_true rfl) rfl ?_
          refine X_goto (pc := 228) 196 dX10_inverse_228 (by decide) ?_
          rw [nI_1]
          exact ih (by omega)
        have r1 := R1 k (by omega) (by omega)
        have r2 := R1 (k + 1) (by omega) (by omega)
        refine X_iload (pc := 196) 0 dX10_inverse_196 rfl ?_
        refine X_iload (pc := 198) 2 dX10_inverse_198 rfl ?_
        refine X_cge (pc := 200) 231 dX10_inverse_200 (by decide) (by omega) (by omega) (fun c => absurd c (by omega)) (fun _ => ?_)
        refine X_iload (pc := 203) 1 dX10_inverse_203 rfl ?_
        refine X_if_eq (pc := 205) 222 dX10_inverse_205 (by decide) (fun c_205 => ?_) (fun c_205 => ?_)
        · refine X_iconst (pc := 222) (x := 0) dX10_inverse_222 (by decide) ?_
          refine fin2 0 ?_
          have q1 : ¬ V k R = 1 := fun z => by rw [if_pos z] at c_205; exact absurd c_205 (by decide)
          rw [if_neg]
          intro z
          exact q1 (r1.mpr ⟨(r2.mp z).1, fun j a b => (r2.mp z).2 j a (by omega)⟩)
        · skip
          have q1 : V k R = 1 := by
            apply Classical.byContradiction
            intro z
            rw [if_neg z] at c_205
            exact c_205 rfl
          refine X_aload_n (pc := 208) 3 dX10_inverse_208 rfl rfl ?_
          refine X_getfield (pc := 209) dX10_inverse_209 fg_X10_113_11 o1 f6 ?_
          refine X_iload (pc := 212) 0 dX10_inverse_212 rfl ?_
          refine X_iaload (pc := 214) dX10_inverse_214 w.2.1 b1 ?_
          rw [ck]
          refine X_if_ne (pc := 215) 222 dX10_inverse_215 (by decide) (fun c_215 => ?_) (fun c_215 => ?_)
          · refine X_iconst (pc := 222) (x := 0) dX10_inverse_222 (by decide) ?_
            refine fin2 0 ?_
            rw [if_neg]
            intro z
            exact c_215 ((r2.mp z).2 k (by omega) (by omega))
          · skip
            refine X_iconst (pc := 218) (x := 1) dX10_inverse_218 (by decide) ?_
            refine X_goto (pc := 219) 223 dX10_inverse_219 (by decide) ?_
            refine fin2 1 ?_
            rw [if_pos]
            refine r2.mpr ⟨(r1.mp q1).1, fun j a b => ?_⟩
            by_cases e : j = k
            · subst e; exact c_215
            · exact (r1.mp q1).2 j a (by omega))
    have hlast := loop 1 (by omega) (Nat.le_refl 1)
    have e1 : V 1 R = u32 (R 0) := by show 0 + u32 (R 0) * 2 ^ (32 * 0) = _; omega
    refine X_aload_n (pc := 176) 1 dX10_inverse_176 rfl rfl ?_
    refine X_getfield (pc := 177) dX10_inverse_177 fg_X10_113_11 o1 f6 ?_
    refine X_iconst (pc := 180) (x := 0) dX10_inverse_180 (by decide) ?_
    refine X_iaload (pc := 181) dX10_inverse_181 w.2.1 Z ?_
    refine X_iconst (pc := 182) (x := 1) dX10_inverse_182 (by decide) ?_
    rw [c0]
    refine X_icmp_ne (pc := 183) 190 dX10_inverse_183 (by decide) (fun c_183 => ?_) (fun c_183 => ?_)
    · refine X_iconst (pc := 190) (x := 0) dX10_inverse_190 (by decide) ?_
      refine X_istore (pc := 191) (L' := [(5, .int _), (4, .int _), (0, .ref _), (1, .ref _), (2, .ref _), (3, .ref _)]) dX10_inverse_191 (Nat.le_of_ble_eq_true rfl) rfl ?_
      refine X_iconst (pc := 193) (x := 1) dX10_inverse_193 (by decide) ?_
      refine X_istore (pc := 194) (L' := [(6, .int _), (5, .int _), (4, .int _), (0, .ref _), (1, .ref _), (2, .ref _), (3, .ref _)]) dX10_inverse_194 (Nat.le_of_ble_eq_true rfl) rfl ?_
      have q : (if V 1 R = 1 then (1 : Int32) else 0) = 0 := if_neg (fun z => c_183 (u32_inj (by rw [← e1, z]; rfl)))
      rw [q] at hlast
      exact hlast
    · skip
      refine X_iconst (pc := 186) (x := 1) dX10_inverse_186 (by decide) ?_
      refine X_goto (pc := 187) 191 dX10_inverse_187 (by decide) ?_
      refine X_istore (pc := 191) (L' := [(5, .int _), (4, .int _), (0, .ref _), (1, .ref _), (2, .ref _), (3, .ref _)]) dX10_inverse_191 (Nat.le_of_ble_eq_true rfl) rfl ?_
      refine X_iconst (pc := 193) (x := 1) dX10_inverse_193 (by decide) ?_
      refine X_istore (pc := 194) (L' := [(6, .int _), (5, .int _), (4, .int _), (0, .ref _), (1, .ref _), (2, .ref _), (3, .ref _)]) dX10_inverse_194 (Nat.le_of_ble_eq_true rfl) rfl ?_
      have q : (if V 1 R = 1 then (1 : Int32) else 0) = 1 := if_pos (by rw [e1, c_183]; rfl)
      rw [q] at hlast
      exact hlast
  -- the main loop
  have loop : ∀ (B : Nat) (L R O T : Nat → Int32) (h' : AH), 2 * (V n L + V n R) + (if V n L < V n R then 1 else 0) ≤ B → W4 h al ar ao ai L R O T h' → IvI mv va (V n L) (V n R) (V n O) (V n T) →
      XX g MX10_inverse ({ frames := 3, cells := 0, slots := 0, locals := 70 } : Room) (RI fun r h' => ∃ (L R O T f : Nat → Int32), r = (if Nat.gcd va mv = 1 then 1 else 0) ∧ (Nat.gcd va mv = 1 → V n f = invM mv va) ∧ V n f < mv ∧ (∀ j, n ≤ j → f j = fo j) ∧ h' = hset (hset (hset (hset (hset h al (Ai false 0 64 L)) ar (Ai false 0 64 R)) ao (Ai false 0 64 O)) ai (Ai false 0 64 T)) to (Ai false 0 no f)) 0 0 49 [(4, .int (nI n)), (0, .ref M0), (1, .ref M), (2, .ref a), (3, .ref to)] [] h' := by
    intro B
    induction B with
    | zero =>
      intro L R O T h' hB w hI
      have := hI.2.2.2.2.1
      omega
    | succ B ih =>
      intro L R O T h' hB w hI
      obtain ⟨o1, o2, o3, o4, o5⟩ := out0 w
      have hR := hI.2.2.2.2.1
      refine X_aload_n (pc := 49) 1 dX10_inverse_49 rfl rfl ?_
      refine X_getfield (pc := 50) dX10_inverse_50 fg_X10_110_11 o1 f5 ?_
      refine X_iload (pc := 53) 0 dX10_inverse_53 rfl ?_
      refine X_isi (pc := 55) _ dX10_inverse_55 cs_X10_122 rfl (mzero_ok g w.1 h64 (by decide)) nX10_isZero (Nat.le_of_ble_eq_true rfl) (Nat.le_of_ble_eq_true rfl) (Nat.le_of_ble_eq_true rfl) (Nat.le_of_ble_eq_true rfl) (fun r1 h1 q1 => ?_)
      obtain ⟨rfl, rfl⟩ := q1
      refine X_if_ne (pc := 58) 176 dX10_inverse_58 (by decide) (fun c_58 => ?_) (fun c_58 => ?_)
      · have hz : V n L = 0 := by
          apply Classical.byContradiction
          intro z
          rw [if_neg z] at c_58
          exact c_58 rfl
        exact fin L R O T h1 w hz hI
      · have hz : ¬ V n L = 0 := fun z => by rw [if_pos z] at c_58; exact absurd c_58 (by decide)
        refine X_aload_n (pc := 61) 1 dX10_inverse_61 rfl rfl ?_
        refine X_getfield (pc := 62) dX10_inverse_62 fg_X10_110_11 o1 f5 ?_
        refine X_iconst (pc := 65) (x := 0) dX10_inverse_65 (by decide) ?_
        refine X_iaload (pc := 66) dX10_inverse_66 w.1 Z ?_
        rw [c0]
        refine X_iconst (pc := 67) (x := 1) dX10_inverse_67 (by decide) ?_
        refine X_iand (pc := 68) dX10_inverse_68 ?_
        rw [and1_u32, ← V_par h0]
        refine X_if_ne (pc := 69) 93 dX10_inverse_69 (by decide) (fun c_69 => ?_) (fun c_69 => ?_)
        · have hodL : V n L % 2 = 1 := by
            rcases Nat.mod_two_eq_zero_or_one (V n L) with e | e
            · rw [e] at c_69; exact absurd rfl c_69
            · exact e
          refine X_aload_n (pc := 93) 1 dX10_inverse_93 rfl rfl ?_
          refine X_getfield (pc := 94) dX10_inverse_94 fg_X10_110_11 o1 f5 ?_
          refine X_aload_n (pc := 97) 1 dX10_inverse_97 rfl rfl ?_
          refine X_getfield (pc := 98) dX10_inverse_98 fg_X10_113_11 o1 f6 ?_
          refine X_iload (pc := 101) 0 dX10_inverse_101 rfl ?_
          refine X_isi (pc := 103) _ dX10_inverse_103 cs_X10_26 rfl (mcmp_ok g w.1 w.2.1 h64 h64 ⟨by decide, by decide⟩) nX10_compare (Nat.le_of_ble_eq_true rfl) (Nat.le_of_ble_eq_true rfl) (Nat.le_of_ble_eq_true rfl) (Nat.le_of_ble_eq_true rfl) (fun r2 h2 q2 => ?_)
          obtain ⟨rfl, rfl⟩ := q2
          refine X_if_lt (pc := 106) 147 dX10_inverse_106 (by decide) (fun c_106 => ?_) (fun c_106 => ?_)
          · have hlt : V n L < V n R := by
              unfold cmpN at c_106
              split at c_106
              · assumption
              · split at c_106
                · exact absurd c_106 (by decide)
                · exact absurd c_106 (by decide)
            refine X_aload_n (pc := 147) 1 dX10_inverse_147 rfl rfl ?_
            refine X_getfield (pc := 148) dX10_inverse_148 fg_X10_110_11 o1 f5 ?_
            refine X_aload_n (pc := 151) 1 dX10_inverse_151 rfl rfl ?_
            refine X_getfield (pc := 152) dX10_inverse_152 fg_X10_113_11 o1 f6 ?_
            refine X_iload (pc := 155) 0 dX10_inverse_155 rfl ?_
            refine X_isv (pc := 157) _ dX10_inverse_157 cs_X10_133 rfl (mswap_ok g w.1 w.2.1 d.1 h64 h64 ⟨by decide, by decide⟩) nX10_swap (Nat.le_of_ble_eq_true rfl) (Nat.le_of_ble_eq_true rfl) (Nat.le_of_ble_eq_true rfl) (Nat.le_of_ble_eq_true rfl) (fun h3 q3 => ?_)
            have w3 := (w.sl d (cpN n R L)).sr d (cpN n L R)
            subst q3
            obtain ⟨p1, p2, p3, p4, p5⟩ := out0 w3
            refine X_aload_n (pc := 160) 1 dX10_inverse_160 rfl rfl ?_
            refine X_getfield (pc := 161) dX10_inverse_161 fg_X10_116_11 p1 f7 ?_
            refine X_aload_n (pc := 164) 1 dX10_inverse_164 rfl rfl ?_
            refine X_getfield (pc := 165) dX10_inverse_165 fg_X10_119_11 p1 f8 ?_
            refine X_iload (pc := 168) 0 dX10_inverse_168 rfl ?_
            refine X_isv (pc := 170) _ dX10_inverse_170 cs_X10_133 rfl (mswap_ok g w3.2.2.1 w3.2.2.2.1 d.2.2.2.2.2 h64 h64 ⟨by decide, by decide⟩) nX10_swap (Nat.le_of_ble_eq_true rfl) (Nat.le_of_ble_eq_true rfl) (Nat.le_of_ble_eq_true rfl) (Nat.le_of_ble_eq_true rfl) (fun h4 q4 => ?_)
            have w4 := (w3.so d (cpN n T O)).st d (cpN n O T)
            subst q4
            refine X_goto (pc := 173) 49 dX10_inverse_173 (by decide) ?_
            refine ih _ _ _ _ _ ?_ w4 ?_
            · rw [cpN_V, cpN_V]
              rw [if_pos hlt] at hB
              rw [if_neg (by omega)]
              omega
            · rw [cpN_V, cpN_V, cpN_V, cpN_V]
              exact hI.swap hodL
          · skip
            have hge : V n R ≤ V n L := by
              unfold cmpN at c_106
              split at c_106
              · exact absurd (show (-1 : Int32) < 0 by decide) c_106
              · omega
            refine X_aload_n (pc := 109) 1 dX10_inverse_109 rfl rfl ?_
            refine X_getfield (pc := 110) dX10_inverse_110 fg_X10_110_11 o1 f5 ?_
            refine X_aload_n (pc := 113) 1 dX10_inverse_113 rfl rfl ?_
            refine X_getfield (pc := 114) dX10_inverse_114 fg_X10_113_11 o1 f6 ?_
            refine X_aload_n (pc := 117) 1 dX10_inverse_117 rfl rfl ?_
            refine X_getfield (pc := 118) dX10_inverse_118 fg_X10_110_11 o1 f5 ?_
            refine X_iload (pc := 121) 0 dX10_inverse_121 rfl ?_
            refine X_isi (pc := 123) _ dX10_inverse_123 cs_X10_30 rfl (mminus_ok g w.1 w.2.1 w.1 h64 h64 h64 ⟨by decide, by decide, by decide⟩) nX10_minus (Nat.le_of_ble_eq_true rfl) (Nat.le_of_ble_eq_true rfl) (Nat.le_of_ble_eq_true rfl) (Nat.le_of_ble_eq_true rfl) (fun r3 h3 q3 => ?_)
            obtain ⟨f, hr, hf, hv, rfl⟩ := q3
            have w3 := w.sl d f
            obtain ⟨p1, p2, p3, p4, p5⟩ := out0 w3
            have hfv : V n f = V n L - V n R := by
              have l1 := V_lt n f
              have l2 := V_lt n L
              have hp : ((2 ^ (32 * n) : Nat) : Int) = (2 : Int) ^ (32 * n) := by push_cast; rfl
              rw [← hp] at hv
              rcases hr with rfl | rfl
              · have e0 : (0 : Int32).toInt = 0 := rfl
                rw [e0] at hv
                omega
              · have e0 : (-1 : Int32).toInt = -1 := rfl
                rw [e0] at hv
                omega
            refine X_istore (pc := 126) (L' := [(5, .int _), (4, .int _), (0, .ref _), (1, .ref _), (2, .ref _), (3, .ref _)]) dX10_inverse_126 (Nat.le_of_ble_eq_true rfl) rfl ?_
            refine X_aload_n (pc := 128) 3 dX10_inverse_128 rfl rfl ?_
            refine X_aload_n (pc := 129) 2 dX10_inverse_129 rfl rfl ?_
            refine X_getfield (pc := 130) dX10_inverse_130 fg_X10_116_11 p1 f7 ?_
            refine X_aload_n (pc := 133) 2 dX10_inverse_133 rfl rfl ?_
            refine X_getfield (pc := 134) dX10_inverse_134 fg_X10_119_11 p1 f8 ?_
            refine X_aload_n (pc := 137) 2 dX10_inverse_137 rfl rfl ?_
            refine X_getfield (pc := 138) dX10_inverse_138 fg_X10_116_11 p1 f7 ?_
            refine X_isv (pc := 141) _ dX10_inverse_141 cs_X10_130 rfl (mmsub_ok g p2 p3 w3.2.2.1 w3.2.2.2.1 w3.2.2.1 em.2.2.1 ⟨hs.1, h64, h64, h64⟩ ⟨hl.1, by decide, by decide, by decide⟩ (by rw [hvm]; exact hI.2.2.1) (by rw [hvm]; exact hI.2.2.2.1)) nX10_sub (Nat.le_of_ble_eq_true rfl) (Nat.le_of_ble_eq_true rfl) (Nat.le_of_ble_eq_true rfl) (Nat.le_of_ble_eq_true rfl) (fun h4 q4 => ?_)
            obtain ⟨f2, -, hv2, rfl⟩ := q4
            have w4 := w3.so d f2
            refine X_goto (pc := 144) 49 dX10_inverse_144 (by decide) ?_
            refine XX.pick (L' := [(4, .int _), (0, .ref _), (1, .ref _), (2, .ref _), (3, .ref _)]) [1, 2, 3, 4, 5] rfl ?_
            refine ih _ _ _ _ _ ?_ w4 ?_
            · rw [hfv]
              rw [if_neg (by omega)] at hB
              split <;> omega
            · rw [hfv, hv2, hvm]
              exact hI.sub hge
        · have hevL : V n L % 2 = 0 := by
            rcases Nat.mod_two_eq_zero_or_one (V n L) with e | e
            · exact e
            · rw [e] at c_69; exact absurd c_69 (by decide)
          refine X_aload_n (pc := 72) 1 dX10_inverse_72 rfl rfl ?_
          refine X_getfield (pc := 73) dX10_inverse_73 fg_X10_110_11 o1 f5 ?_
          refine X_iload (pc := 76) 0 dX10_inverse_76 rfl ?_
          refine X_iconst (pc := 78) (x := 0) dX10_inverse_78 (by decide) ?_
          refine X_isv (pc := 79) _ dX10_inverse_79 cs_X10_106 rfl (mhalf_ok g w.1 h64 (by decide)) nX10_half (Nat.le_of_ble_eq_true rfl) (Nat.le_of_ble_eq_true rfl) (Nat.le_of_ble_eq_true rfl) (Nat.le_of_ble_eq_true rfl) (fun h3 q3 => ?_)
          have w3 := w.sl d (hvF n n L 0)
          subst q3
          obtain ⟨p1, p2, p3, p4, p5⟩ := out0 w3
          have hfv : V n (hvF n n L 0) = V n L / 2 := by
            have := hvF_V h0 L 0
            have e0 : u32 (0 : Int32) % 2 = 0 := rfl
            rw [e0, hevL] at this
            omega
          refine X_aload_n (pc := 82) 2 dX10_inverse_82 rfl rfl ?_
          refine X_aload_n (pc := 83) 1 dX10_inverse_83 rfl rfl ?_
          refine X_getfield (pc := 84) dX10_inverse_84 fg_X10_116_11 p1 f7 ?_
          refine X_isv (pc := 87) _ dX10_inverse_87 cs_X10_126 rfl (mhalves_ok g p2 p3 w3.2.2.1 em.2.2.1 h0 ⟨hs.1, h64⟩ ⟨hl.1, by decide⟩ (by rw [hvm]; exact hodd)) nX10_halves (Nat.le_of_ble_eq_true rfl) (Nat.le_of_ble_eq_true rfl) (Nat.le_of_ble_eq_true rfl) (Nat.le_of_ble_eq_true rfl) (fun h4 q4 => ?_)
          obtain ⟨f2, hv2, rfl⟩ := q4
          have w4 := w3.so d f2
          refine X_goto (pc := 90) 49 dX10_inverse_90 (by decide) ?_
          refine ih _ _ _ _ _ ?_ w4 ?_
          · rw [hfv]
            split <;> omega
          · rw [hfv, hv2, hvm]
            exact hI.half hodd hevL
  obtain ⟨o1, o2, o3, o4, o5⟩ := out0 w0
  refine X_aload_n (pc := 0) 1 dX10_inverse_0 rfl rfl ?_
  refine X_getfield (pc := 1) dX10_inverse_1 fg_X10_13_12 (by assumption) (by first | rfl | assumption) ?_
  refine X_istore (pc := 4) (L' := [(4, .int _), (0, .ref _), (1, .ref _), (2, .ref _), (3, .ref _)]) dX10_inverse_4 (Nat.le_of_ble_eq_true rfl) rfl ?_
  refine X_aload_n (pc := 6) 3 dX10_inverse_6 rfl rfl ?_
  refine X_aload_n (pc := 7) 1 dX10_inverse_7 rfl rfl ?_
  refine X_getfield (pc := 8) dX10_inverse_8 fg_X10_110_11 o1 f5 ?_
  refine X_iload (pc := 11) 0 dX10_inverse_11 rfl ?_
  refine X_isv (pc := 13) _ dX10_inverse_13 cs_X10_91 rfl (mcopy_ok g o4 w0.1 hs.2.1 h64 ⟨hl.2.1, by decide⟩) nX10_copy (Nat.le_of_ble_eq_true rfl) (Nat.le_of_ble_eq_true rfl) (Nat.le_of_ble_eq_true rfl) (Nat.le_of_ble_eq_true rfl) (fun h1 q1 => ?_)
  have w1 := w0.sl d (cpN n fa L0)
  subst q1
  obtain ⟨p1, p2, p3, p4, p5⟩ := out0 w1
  refine X_aload_n (pc := 16) 2 dX10_inverse_16 rfl rfl ?_
  refine X_getfield (pc := 17) dX10_inverse_17 fg_X10_22_12 (by assumption) (by first | rfl | assumption) ?_
  refine X_aload_n (pc := 20) 1 dX10_inverse_20 rfl rfl ?_
  refine X_getfield (pc := 21) dX10_inverse_21 fg_X10_113_11 p1 f6 ?_
  refine X_iload (pc := 24) 0 dX10_inverse_24 rfl ?_
  refine X_isv (pc := 26) _ dX10_inverse_26 cs_X10_91 rfl (mcopy_ok g p3 w1.2.1 hs.1 h64 ⟨hl.1, by decide⟩) nX10_copy (Nat.le_of_ble_eq_true rfl) (Nat.le_of_ble_eq_true rfl) (Nat.le_of_ble_eq_true rfl) (Nat.le_of_ble_eq_true rfl) (fun h2 q2 => ?_)
  have w2 := w1.sr d (cpN n fm R0)
  subst q2
  obtain ⟨p1, p2, p3, p4, p5⟩ := out0 w2
  refine X_iconst (pc := 29) (x := 1) dX10_inverse_29 (by decide) ?_
  refine X_aload_n (pc := 30) 1 dX10_inverse_30 rfl rfl ?_
  refine X_getfield (pc := 31) dX10_inverse_31 fg_X10_116_11 p1 f7 ?_
  refine X_iload (pc := 34) 0 dX10_inverse_34 rfl ?_
  refine X_isv (pc := 36) _ dX10_inverse_36 cs_X10_98 rfl (msmall_ok g w2.2.2.1 h0 h64 (by decide)) nX10_small (Nat.le_of_ble_eq_true rfl) (Nat.le_of_ble_eq_true rfl) (Nat.le_of_ble_eq_true rfl) (Nat.le_of_ble_eq_true rfl) (fun h3 q3 => ?_)
  have w3 := w2.so d (smN n 1 O0)
  subst q3
  obtain ⟨p1, p2, p3, p4, p5⟩ := out0 w3
  refine X_iconst (pc := 39) (x := 0) dX10_inverse_39 (by decide) ?_
  refine X_aload_n (pc := 40) 1 dX10_inverse_40 rfl rfl ?_
  refine X_getfield (pc := 41) dX10_inverse_41 fg_X10_119_11 p1 f8 ?_
  refine X_iload (pc := 44) 0 dX10_inverse_44 rfl ?_
  refine X_isv (pc := 46) _ dX10_inverse_46 cs_X10_98 rfl (msmall_ok g w3.2.2.2.1 h0 h64 (by decide)) nX10_small (Nat.le_of_ble_eq_true rfl) (Nat.le_of_ble_eq_true rfl) (Nat.le_of_ble_eq_true rfl) (Nat.le_of_ble_eq_true rfl) (fun h4 q4 => ?_)
  have w4 := w3.st d (smN n 0 T0)
  subst q4
  refine loop _ _ _ _ _ _ (Nat.le_refl _) w4 ?_
  rw [cpN_V, cpN_V, smN_V h0, smN_V h0, hva, hvm]
  exact IvI.init hodd h1
