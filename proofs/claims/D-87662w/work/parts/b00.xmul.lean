set_option maxRecDepth 100000
/-! VeilMint's moduli: the object, the sum, the difference, the product of Montgomery -/
def MdC (c : Nat → Nat) (n : Nat) (ng : Int32) : AC := Ob 4 [.int (nI n), .ref (c 1), .ref (c 2), .ref (c 3), .ref (c 4), .ref (c 5), .ref (c 6), .ref (c 7), .ref (c 8), .ref (c 9), .int ng]
theorem mg_step {T' T ai q vb mv K Va : Nat} (h : T' * 2 ^ 32 = T + ai * vb + q * mv) (e : ∃ Q, T * K = Va * vb + Q * mv) : ∃ Q, T' * (2 ^ 32 * K) = (Va + ai * K) * vb + Q * mv := by
  obtain ⟨Q, e⟩ := e
  refine ⟨Q + q * K, ?_⟩
  have h2 : T' * 2 ^ 32 * K = (T + ai * vb + q * mv) * K := by rw [h]
  grind
theorem mg_lt {T' T ai q vb mv : Nat} (h : T' * 2 ^ 32 = T + ai * vb + q * mv) (hT : T < vb + mv) (ha : ai < 2 ^ 32) (hq : q < 2 ^ 32) : T' < vb + mv := by
  have h1 : ai * vb ≤ (2 ^ 32 - 1) * vb := Nat.mul_le_mul_right _ (by omega)
  have h2 : q * mv ≤ (2 ^ 32 - 1) * mv := Nat.mul_le_mul_right _ (by omega)
  omega
theorem mg_low {t0 ng m0 : Nat} (h : (ng * m0 + 1) % 2 ^ 32 = 0) : (t0 * ng % 2 ^ 32 * m0 + t0) % 2 ^ 32 = 0 := by
  have e : (t0 * ng % 2 ^ 32 * m0 + t0) % 2 ^ 32 = t0 * (ng * m0 + 1) % 2 ^ 32 := by
    rw [Nat.add_mod, Nat.mul_mod, Nat.mod_mod, ← Nat.mul_mod, ← Nat.add_mod]
    congr 1
    grind
  rw [e, Nat.mul_mod, h, Nat.mul_zero, Nat.zero_mod]
theorem mg_red {Vg Vf2 Vm K c c' q m t x : Nat} (hv : Vg * 2 ^ 32 + c * K = Vf2 + q * Vm) (hs : x + c' * 2 ^ 32 = c + (q * m + t)) (Kq : Nat) (hK : K = 2 ^ 32 * Kq) : (Vg + x * Kq) * 2 ^ 32 + c' * (2 ^ 32 * K) = Vf2 + t * K + q * (Vm + m * K) := by
  subst hK
  have h2 : (x + c' * 2 ^ 32) * (2 ^ 32 * Kq) = (c + (q * m + t)) * (2 ^ 32 * Kq) := by rw [hs]
  grind
theorem mg_end {Vg Vf2 Vm Kq c c1 t e q x y : Nat} (hv : Vg * 2 ^ 32 + c * (2 ^ 32 * Kq) = Vf2 + q * Vm) (h1 : c1 = c + t) (hx : x = c1 % 2 ^ 32) (hy : y = e + c1 / 2 ^ 32) :
    (Vg + x * Kq + y * (2 ^ 32 * Kq)) * 2 ^ 32 = Vf2 + t * (2 ^ 32 * Kq) + e * (2 ^ 32 * (2 ^ 32 * Kq)) + q * Vm := by
  have h3 : x + (c1 / 2 ^ 32) * 2 ^ 32 = c + t := by omega
  have h2 : (x + (c1 / 2 ^ 32) * 2 ^ 32) * (2 ^ 32 * Kq) = (c + t) * (2 ^ 32 * Kq) := by rw [h3]
  subst hy
  generalize c1 / 2 ^ 32 = d at *
  clear hx h1 h3
  grind
theorem mg_mid {Vf Vf0 K c c1 t ai vb x y : Nat} (hv : Vf + c * K = Vf0 + ai * vb) (h1 : c1 = c + t) (hx : x = c1 % 2 ^ 32) (hy : y = c1 / 2 ^ 32) : Vf + x * K + y * (2 ^ 32 * K) = Vf0 + t * K + ai * vb := by
  have h3 : x + y * 2 ^ 32 = c + t := by omega
  have h2 : (x + y * 2 ^ 32) * K = (c + t) * K := by rw [h3]
  clear hx hy h1 h3
  grind
theorem V_cpy {n : Nat} {f f1 : Nat → Int32} : V n (va_cpy f f1 0 0 n) = V n f := V_congr fun j hj => sb_cpy0 hj
set_option maxHeartbeats 4000000 in
theorem xsub_ok (g : GX) {h : AH} {M am a b out n : Nat} {fs : List Value} {ra rb : Bool} {fm fa fb fo : Nat → Int32} (hM : h M = some (Ob 4 fs)) (h1 : fs[1]? = some (.ref am)) (hm : h am = some (Ai false 0 n fm)) (ha : h a = some (Ai ra 0 n fa)) (hb : h b = some (Ai rb 0 n fb)) (ho : h out = some (Ai false 0 n fo))
    (hne : am ≠ out) (hva : V n fa < V n fm) (hvb : V n fb < V n fm) (hn : n < 2 ^ 31) :
    MT g MX6_sub ({ frames := 1, cells := 0, slots := 0, locals := 27 } : Room) [.ref M, .ref a, .ref b, .ref out] h (RV fun h' => ∃ f, V n f = sbN (V n fm) (V n fa) (V n fb) ∧ h' = hset h out (Ai false 0 n f)) := by
  refine MT.of (by decide) (Nat.le_of_ble_eq_true rfl) ?_
  have hMo : M ≠ out := ne_of hM ho (fun e => by cases e)
  have hp : ((2 ^ (32 * n) : Nat) : Int) = (2 : Int) ^ (32 * n) := by push_cast; rfl
  have hml := V_lt n fm
  refine X_aload_n (pc := 0) 1 dX6_sub_0 rfl rfl ?_
  refine X_aload_n (pc := 1) 2 dX6_sub_1 rfl rfl ?_
  refine X_aload_n (pc := 2) 3 dX6_sub_2 rfl rfl ?_
  refine X_isi (pc := 3) _ dX6_sub_3 cs_X6_74 rfl (minus_ok g ha hb ho (Nat.le_refl n) (Nat.le_refl n) ⟨hn, hn⟩) nX6_minus (Nat.le_of_ble_eq_true rfl) (Nat.le_of_ble_eq_true rfl) (Nat.le_of_ble_eq_true rfl) (Nat.le_of_ble_eq_true rfl) (fun r h1 q => ?_)
  obtain ⟨f, hr, -, hv, rfl⟩ := q
  have hVl := V_lt n f
  rw [← hp] at hv
  have hfo := hset_self h out (Ai false 0 n f)
  have hfM : hset h out (Ai false 0 n f) M = some (Ob 4 fs) := by rw [hset_ne hMo]; exact hM
  have hfm : hset h out (Ai false 0 n f) am = some (Ai false 0 n fm) := by rw [hset_ne hne]; exact hm
  refine X_istore (pc := 6) (L' := [(4, .int _), (0, .ref _), (1, .ref _), (2, .ref _), (3, .ref _)]) dX6_sub_6 (Nat.le_of_ble_eq_true rfl) rfl ?_
  refine X_iload (pc := 8) 0 dX6_sub_8 rfl ?_
  refine X_if_eq (pc := 10) 24 dX6_sub_10 (by decide) (fun c_10 => ?_) (fun c_10 => ?_)
  · subst c_10
    have e0 : (0 : Int32).toInt = 0 := rfl
    rw [e0] at hv
    refine X_return (pc := 24) dX6_sub_24 rfl (Nat.le_of_ble_eq_true rfl) (Nat.le_of_ble_eq_true rfl) ?_
    refine ⟨rfl, f, ?_, rfl⟩
    unfold sbN
    rw [show V n fa + (V n fm - V n fb) = (V n fa - V n fb) + V n fm by omega, Nat.add_mod_right, Nat.mod_eq_of_lt (by omega)]
    omega
  · rcases hr with rfl | rfl
    · exact absurd rfl c_10
    have e0 : (-1 : Int32).toInt = -1 := rfl
    rw [e0] at hv
    refine X_aload_n (pc := 13) 4 dX6_sub_13 rfl rfl ?_
    refine X_aload_n (pc := 14) 1 dX6_sub_14 rfl rfl ?_
    refine X_getfield (pc := 15) dX6_sub_15 fg_X6_13_4 (by assumption) (by first | rfl | assumption) ?_
    refine X_aload_n (pc := 18) 4 dX6_sub_18 rfl rfl ?_
    refine X_isi (pc := 19) _ dX6_sub_19 cs_X6_70 rfl (plus_ok g hfo hfm hfo (Nat.le_refl n) (Nat.le_refl n) ⟨hn, hn⟩) nX6_plus (Nat.le_of_ble_eq_true rfl) (Nat.le_of_ble_eq_true rfl) (Nat.le_of_ble_eq_true rfl) (Nat.le_of_ble_eq_true rfl) (fun r2 h2 q2 => ?_)
    obtain ⟨f2, hr2, -, hv2, rfl⟩ := q2
    rw [← hp] at hv2
    have hVl2 := V_lt n f2
    refine X_istore (pc := 22) (L' := [(4, .int _), (0, .ref _), (1, .ref _), (2, .ref _), (3, .ref _)]) dX6_sub_22 (Nat.le_of_ble_eq_true rfl) rfl ?_
    refine XX.eqh (hset_hset _ _ _ _) ?_
    refine X_return (pc := 24) dX6_sub_24 rfl (Nat.le_of_ble_eq_true rfl) (Nat.le_of_ble_eq_true rfl) ?_
    refine ⟨rfl, f2, ?_, rfl⟩
    unfold sbN
    rw [Nat.mod_eq_of_lt (by omega)]
    rcases hr2 with rfl | rfl
    · have e1 : (0 : Int32).toInt = 0 := rfl
      rw [e1] at hv2
      omega
    · have e1 : (1 : Int32).toInt = 1 := rfl
      rw [e1] at hv2
      omega
theorem xadd_ok (g : GX) {h : AH} {M am a b out n : Nat} {fs : List Value} {ra rb : Bool} {fm fa fb fo : Nat → Int32} (hM : h M = some (Ob 4 fs)) (h1 : fs[1]? = some (.ref am)) (hm : h am = some (Ai false 0 n fm)) (ha : h a = some (Ai ra 0 n fa)) (hb : h b = some (Ai rb 0 n fb)) (ho : h out = some (Ai false 0 n fo))
    (hne : am ≠ out) (hva : V n fa < V n fm) (hvb : V n fb < V n fm) (hn : n < 2 ^ 31) :
    MT g MX6_add ({ frames := 3, cells := 0, slots := 0, locals := 64 } : Room) [.ref M, .ref a, .ref b, .ref out] h (RV fun h' => ∃ f, V n f = (V n fa + V n fb) % V n fm ∧ h' = hset h out (Ai false 0 n f)) := by
  refine MT.of (by decide) (Nat.le_of_ble_eq_true rfl) ?_
  have hMo : M ≠ out := ne_of hM ho (fun e => by cases e)
  have hp : ((2 ^ (32 * n) : Nat) : Int) = (2 : Int) ^ (32 * n) := by push_cast; rfl
  have hml := V_lt n fm
  refine X_aload_n (pc := 0) 1 dX6_add_0 rfl rfl ?_
  refine X_aload_n (pc := 1) 2 dX6_add_1 rfl rfl ?_
  refine X_aload_n (pc := 2) 3 dX6_add_2 rfl rfl ?_
  refine X_isi (pc := 3) _ dX6_add_3 cs_X6_70 rfl (plus_ok g ha hb ho (Nat.le_refl n) (Nat.le_refl n) ⟨hn, hn⟩) nX6_plus (Nat.le_of_ble_eq_true rfl) (Nat.le_of_ble_eq_true rfl) (Nat.le_of_ble_eq_true rfl) (Nat.le_of_ble_eq_true rfl) (fun r h1 q => ?_)
  obtain ⟨f, hr, -, hv, rfl⟩ := q
  have hVl := V_lt n f
  rw [← hp] at hv
  have hfo := hset_self h out (Ai false 0 n f)
  have hfM : hset h out (Ai false 0 n f) M = some (Ob 4 fs) := by rw [hset_ne hMo]; exact hM
  have hfm : hset h out (Ai false 0 n f) am = some (Ai false 0 n fm) := by rw [hset_ne hne]; exact hm
  have fin : V n fm ≤ V n fa + V n fb → XX g MX6_add ({ frames := 3, cells := 0, slots := 0, locals := 64 } : Room) (RV fun h' => ∃ f, V n f = (V n fa + V n fb) % V n fm ∧ h' = hset h out (Ai false 0 n f)) 0 0 24 [(4, .int r), (0, .ref M), (1, .ref a), (2, .ref b), (3, .ref out)] [] (hset h out (Ai false 0 n f)) := by
    intro hge
    refine X_aload_n (pc := 24) 4 dX6_add_24 rfl rfl ?_
    refine X_aload_n (pc := 25) 1 dX6_add_25 rfl rfl ?_
    refine X_getfield (pc := 26) dX6_add_26 fg_X6_13_4 (by assumption) (by first | rfl | assumption) ?_
    refine X_aload_n (pc := 29) 4 dX6_add_29 rfl rfl ?_
    refine X_isi (pc := 30) _ dX6_add_30 cs_X6_74 rfl (minus_ok g hfo hfm hfo (Nat.le_refl n) (Nat.le_refl n) ⟨hn, hn⟩) nX6_minus (Nat.le_of_ble_eq_true rfl) (Nat.le_of_ble_eq_true rfl) (Nat.le_of_ble_eq_true rfl) (Nat.le_of_ble_eq_true rfl) (fun r2 h2 q2 => ?_)
    obtain ⟨f2, hr2, -, hv2, rfl⟩ := q2
    rw [← hp] at hv2
    have hVl2 := V_lt n f2
    refine X_istore (pc := 33) (L' := [(4, .int _), (0, .ref _), (1, .ref _), (2, .ref _), (3, .ref _)]) dX6_add_33 (Nat.le_of_ble_eq_true rfl) rfl ?_
    refine XX.eqh (hset_hset _ _ _ _) ?_
    have e2 : V n f2 = (V n fa + V n fb) % V n fm := by
      rw [Nat.mod_eq_sub_mod hge, Nat.mod_eq_of_lt (by omega)]
      have z0 : (0 : Int32).toInt = 0 := rfl
      have z1 : (1 : Int32).toInt = 1 := rfl
      have z2 : (-1 : Int32).toInt = -1 := rfl
      rcases hr with rfl | rfl <;> rcases hr2 with rfl | rfl <;> (try rw [z0] at hv) <;> (try rw [z1] at hv) <;> (try rw [z0] at hv2) <;> (try rw [z2] at hv2) <;> omega
    refine X_return (pc := 35) dX6_add_35 rfl (Nat.le_of_ble_eq_true rfl) (Nat.le_of_ble_eq_true rfl) ?_
    exact ⟨rfl, f2, e2, rfl⟩
  refine X_istore (pc := 6) (L' := [(4, .int _), (0, .ref _), (1, .ref _), (2, .ref _), (3, .ref _)]) dX6_add_6 (Nat.le_of_ble_eq_true rfl) rfl ?_
  refine X_iload (pc := 8) 0 dX6_add_8 rfl ?_
  refine X_if_ne (pc := 10) 24 dX6_add_10 (by decide) (fun c_10 => ?_) (fun c_10 => ?_)
  · refine fin ?_
    rcases hr with rfl | rfl
    · exact absurd rfl c_10
    · have e1 : (1 : Int32).toInt = 1 := rfl
      rw [e1] at hv
      omega
  · subst c_10
    have e0 : (0 : Int32).toInt = 0 := rfl
    rw [e0] at hv
    refine X_aload_n (pc := 13) 4 dX6_add_13 rfl rfl ?_
    refine X_aload_n (pc := 14) 1 dX6_add_14 rfl rfl ?_
    refine X_getfield (pc := 15) dX6_add_15 fg_X6_13_4 (by assumption) (by first | rfl | assumption) ?_
    refine X_isi (pc := 18) _ dX6_add_18 cs_X6_64 rfl (compare_ok g hfo hfm (Nat.le_refl n) hn) nX6_compare (Nat.le_of_ble_eq_true rfl) (Nat.le_of_ble_eq_true rfl) (Nat.le_of_ble_eq_true rfl) (Nat.le_of_ble_eq_true rfl) (fun r2 h2 q2 => ?_)
    obtain ⟨er, rfl⟩ := q2
    refine X_if_lt (pc := 21) 35 dX6_add_21 (by decide) (fun c_21 => ?_) (fun c_21 => ?_)
    · have hlt : V n f < V n fm := by
        rw [er] at c_21
        unfold cmpN at c_21
        split at c_21
        · assumption
        · split at c_21
          · exact absurd c_21 (by decide)
          · exact absurd c_21 (by decide)
      refine X_return (pc := 35) dX6_add_35 rfl (Nat.le_of_ble_eq_true rfl) (Nat.le_of_ble_eq_true rfl) ?_
      exact ⟨rfl, f, by rw [Nat.mod_eq_of_lt (by omega)]; omega, rfl⟩
    · refine fin ?_
      rw [er] at c_21
      unfold cmpN at c_21
      split at c_21
      · exact absurd (show (-1 : Int32) < 0 by decide) c_21
      · omega
set_option maxHeartbeats 16000000 in
theorem xmul_ok (g : GX) {h : AH} {M at' a b out p : Nat} {c0 : Nat → Nat} {ng : Int32} {ra rb : Bool} {fm fa fb fo ft : Nat → Int32} (hM : h M = some (MdC c0 (p + 1) ng)) (e5 : c0 5 = at') (hm : h (c0 1) = some (Ai false 0 (p + 1) fm)) (ht : h at' = some (Ai false 0 (p + 1 + 2) ft))
    (ha : h a = some (Ai ra 0 (p + 1) fa)) (hb : h b = some (Ai rb 0 (p + 1) fb)) (ho : h out = some (Ai false 0 (p + 1) fo))
    (et : c0 1 ≠ at' ∧ a ≠ at' ∧ b ≠ at' ∧ out ≠ at') (eo : c0 1 ≠ out) (hng : (u32 ng * u32 (fm 0) + 1) % 2 ^ 32 = 0) (hvb : V (p + 1) fb < V (p + 1) fm) (hn : p < 2 ^ 20) :
    MT g MX6_mul ({ frames := 3, cells := 0, slots := 0, locals := 64 } : Room) [.ref M, .ref a, .ref b, .ref out] h (RV fun h' => ∃ f f5, V (p + 1) f < V (p + 1) fm ∧ V (p + 1) f * 2 ^ (32 * (p + 1)) % V (p + 1) fm = V (p + 1) fa * V (p + 1) fb % V (p + 1) fm ∧ h' = hset (hset h at' (Ai false 0 (p + 1 + 2) f5)) out (Ai false 0 (p + 1) f)) := by
  refine MT.of (by decide) (Nat.le_of_ble_eq_true rfl) ?_
  obtain ⟨et1, et2, et3, et4⟩ := et
  have hMt : M ≠ at' := ne_of hM ht (fun e => by cases e)
  have hMo : M ≠ out := ne_of hM ho (fun e => by cases e)
  subst e5
  have outs : ∀ f, hset h (c0 5) (Ai false 0 (p + 1 + 2) f) M = some (MdC c0 (p + 1) ng) ∧ hset h (c0 5) (Ai false 0 (p + 1 + 2) f) (c0 1) = some (Ai false 0 (p + 1) fm) ∧ hset h (c0 5) (Ai false 0 (p + 1 + 2) f) a = some (Ai ra 0 (p + 1) fa) ∧ hset h (c0 5) (Ai false 0 (p + 1 + 2) f) b = some (Ai rb 0 (p + 1) fb) ∧ hset h (c0 5) (Ai false 0 (p + 1 + 2) f) out = some (Ai false 0 (p + 1) fo) := fun f =>
    ⟨by rw [hset_ne hMt]; exact hM, by rw [hset_ne et1]; exact hm, by rw [hset_ne et2]; exact ha, by rw [hset_ne et3]; exact hb, by rw [hset_ne et4]; exact ho⟩
  generalize hQ : (RV fun h' => ∃ f f5, V (p + 1) f < V (p + 1) fm ∧ V (p + 1) f * 2 ^ (32 * (p + 1)) % V (p + 1) fm = V (p + 1) fa * V (p + 1) fb % V (p + 1) fm ∧ h' = hset (hset h (c0 5) (Ai false 0 (p + 1 + 2) f5)) out (Ai false 0 (p + 1) f)) = Q
  have cz : (0 : Int32).toNatClampNeg = 0 := rfl
  have bz : vp_in 0 (p + 1) := vp_in_nI (n := 0) (by omega) (by omega)
  have bz2 : vp_in 0 (p + 1 + 2) := vp_in_nI (n := 0) (by omega) (by omega)
  have bp : vp_in (nI p) (p + 1 + 2) := vp_in_nI (by omega) (by omega)
  have bn : vp_in (nI (p + 1)) (p + 1 + 2) := vp_in_nI (by omega) (by omega)
  have bn1 : vp_in (nI (p + 1 + 1)) (p + 1 + 2) := vp_in_nI (by omega) (by omega)
  have cp : (nI p).toNatClampNeg = p := nI_clamp (by omega)
  have cn : (nI (p + 1)).toNatClampNeg = p + 1 := nI_clamp (by omega)
  have cn1 : (nI (p + 1 + 1)).toNatClampNeg = p + 1 + 1 := nI_clamp (by omega)
  -- the end
  have fin : ∀ f, V (p + 1 + 1) f < V (p + 1) fb + V (p + 1) fm → (∃ q, V (p + 1 + 1) f * 2 ^ (32 * (p + 1)) = V (p + 1) fa * V (p + 1) fb + q * V (p + 1) fm) →
      XX g MX6_mul ({ frames := 3, cells := 0, slots := 0, locals := 64 } : Room) Q 0 0 352 [(4, .int (nI (p + 1))), (0, .ref M), (1, .ref a), (2, .ref b), (3, .ref out)] [] (hset h (c0 5) (Ai false 0 (p + 1 + 2) f)) := by
    intro f hb2 hmod
    obtain ⟨q, hmod⟩ := hmod
    obtain ⟨o1, o2, o3, o4, o5⟩ := outs f
    have hs := hset_self h (c0 5) (Ai false 0 (p + 1 + 2) f)
    refine X_aload_n (pc := 352) 1 dX6_mul_352 rfl rfl ?_
    refine X_getfield (pc := 353) dX6_mul_353 fg_X6_26_4 o1 (by first | rfl | assumption) ?_
    refine X_iconst (pc := 356) (x := 0) dX6_mul_356 (by decide) ?_
    refine X_aload_n (pc := 357) 4 dX6_mul_357 rfl rfl ?_
    refine X_iconst (pc := 358) (x := 0) dX6_mul_358 (by decide) ?_
    refine X_aload_n (pc := 359) 1 dX6_mul_359 rfl rfl ?_
    refine X_getfield (pc := 360) dX6_mul_360 fg_X6_7_4 o1 (by first | rfl | assumption) ?_
    refine X_copyI (pc := 363) 0 0 (p + 1) dX6_mul_363 q256 (Or.inl rfl) hs o5 rfl rfl rfl (by omega) (by omega) ⟨by omega, by omega⟩ (Nat.le_of_ble_eq_true rfl) (Nat.le_of_ble_eq_true rfl) ?_
    have Vc : V (p + 1) (va_cpy f fo 0 0 (p + 1)) = V (p + 1) f := V_cpy
    generalize va_cpy f fo 0 0 (p + 1) = fc at Vc
    have p1 : hset (hset h (c0 5) (Ai false 0 (p + 1 + 2) f)) out (Ai false 0 (p + 1) fc) M = some (MdC c0 (p + 1) ng) := by rw [hset_ne hMo]; exact o1
    have p2 : hset (hset h (c0 5) (Ai false 0 (p + 1 + 2) f)) out (Ai false 0 (p + 1) fc) (c0 1) = some (Ai false 0 (p + 1) fm) := by rw [hset_ne eo]; exact o2
    have p3 : hset (hset h (c0 5) (Ai false 0 (p + 1 + 2) f)) out (Ai false 0 (p + 1) fc) (c0 5) = some (Ai false 0 (p + 1 + 2) f) := by rw [hset_ne (fun z => et4 z.symm)]; exact hs
    have p4 := hset_self (hset h (c0 5) (Ai false 0 (p + 1 + 2) f)) out (Ai false 0 (p + 1) fc)
    have hVt : V (p + 1 + 1) f = V (p + 1) f + u32 (f (p + 1)) * 2 ^ (32 * (p + 1)) := rfl
    have hml := V_lt (p + 1) fm
    have hcl := V_lt (p + 1) f
    have two : V (p + 1) fm ≤ V (p + 1 + 1) f → XX g MX6_mul ({ frames := 3, cells := 0, slots := 0, locals := 64 } : Room) Q 0 0 389 [(4, .int (nI (p + 1))), (0, .ref M), (1, .ref a), (2, .ref b), (3, .ref out)] [] (hset (hset h (c0 5) (Ai false 0 (p + 1 + 2) f)) out (Ai false 0 (p + 1) fc)) := by
      intro hge
      refine X_aload_n (pc := 389) 4 dX6_mul_389 rfl rfl ?_
      refine X_aload_n (pc := 390) 1 dX6_mul_390 rfl rfl ?_
      refine X_getfield (pc := 391) dX6_mul_391 fg_X6_13_4 p1 (by first | rfl | assumption) ?_
      refine X_aload_n (pc := 394) 4 dX6_mul_394 rfl rfl ?_
      refine X_isi (pc := 395) _ dX6_mul_395 cs_X6_74 rfl (minus_ok g p4 p2 p4 (Nat.le_refl _) (Nat.le_refl _) ⟨by omega, by omega⟩) nX6_minus (Nat.le_of_ble_eq_true rfl) (Nat.le_of_ble_eq_true rfl) (Nat.le_of_ble_eq_true rfl) (Nat.le_of_ble_eq_true rfl) (fun r2 h2 q2 => ?_)
      obtain ⟨f2, hr2, -, hv2, rfl⟩ := q2
      have hp : ((2 ^ (32 * (p + 1)) : Nat) : Int) = (2 : Int) ^ (32 * (p + 1)) := by push_cast; rfl
      rw [← hp, Vc] at hv2
      have hVl2 := V_lt (p + 1) f2
      refine X_istore (pc := 398) (L' := [(4, .int _), (0, .ref _), (1, .ref _), (2, .ref _), (3, .ref _)]) dX6_mul_398 (Nat.le_of_ble_eq_true rfl) rfl ?_
      refine XX.eqh (hset_hset _ _ _ _) ?_
      subst hQ
      refine X_return (pc := 400) dX6_mul_400 rfl (Nat.le_of_ble_eq_true rfl) (Nat.le_of_ble_eq_true rfl) ?_
      have ev : V (p + 1) f2 = V (p + 1 + 1) f - V (p + 1) fm := by
        have hu : u32 (f (p + 1)) = 0 ∨ u32 (f (p + 1)) = 1 := by
          rcases Nat.lt_or_ge 1 (u32 (f (p + 1))) with z | z
          · exfalso
            have : 2 * 2 ^ (32 * (p + 1)) ≤ u32 (f (p + 1)) * 2 ^ (32 * (p + 1)) := Nat.mul_le_mul_right _ z
            omega
          · omega
        have z0 : (0 : Int32).toInt = 0 := rfl
        have z2 : (-1 : Int32).toInt = -1 := rfl
        rcases hu with hu | hu <;> rw [hu] at hVt <;> rcases hr2 with rfl | rfl <;> (try rw [z0] at hv2) <;> (try rw [z2] at hv2) <;> omega
      refine ⟨rfl, f2, f, by omega, ?_, rfl⟩
      have e1 : V (p + 1) f2 * 2 ^ (32 * (p + 1)) + 2 ^ (32 * (p + 1)) * V (p + 1) fm = V (p + 1) fa * V (p + 1) fb + q * V (p + 1) fm := by
        rw [← hmod, ev, Nat.mul_comm (2 ^ (32 * (p + 1))), ← Nat.add_mul, Nat.sub_add_cancel hge]
      rw [← Nat.add_mul_mod_self_right (V (p + 1) f2 * 2 ^ (32 * (p + 1))) (2 ^ (32 * (p + 1))) (V (p + 1) fm), e1, Nat.add_mul_mod_self_right]
    have one : V (p + 1 + 1) f < V (p + 1) fm → u32 (f (p + 1)) = 0 → XX g MX6_mul ({ frames := 3, cells := 0, slots := 0, locals := 64 } : Room) Q 0 0 400 [(4, .int (nI (p + 1))), (0, .ref M), (1, .ref a), (2, .ref b), (3, .ref out)] [] (hset (hset h (c0 5) (Ai false 0 (p + 1 + 2) f)) out (Ai false 0 (p + 1) fc)) := by
      intro hlt hu
      rw [hu] at hVt
      subst hQ
      refine X_return (pc := 400) dX6_mul_400 rfl (Nat.le_of_ble_eq_true rfl) (Nat.le_of_ble_eq_true rfl) ?_
      refine ⟨rfl, fc, f, by omega, ?_, rfl⟩
      rw [Vc, show V (p + 1) f = V (p + 1 + 1) f by omega, hmod, Nat.add_mul_mod_self_right]
    refine X_aload_n (pc := 366) 1 dX6_mul_366 rfl rfl ?_
    refine X_getfield (pc := 367) dX6_mul_367 fg_X6_26_4 p1 (by first | rfl | assumption) ?_
    refine X_aload_n (pc := 370) 1 dX6_mul_370 rfl rfl ?_
    refine X_getfield (pc := 371) dX6_mul_371 fg_X6_7_4 p1 (by first | rfl | assumption) ?_
    refine X_iaload (pc := 374) dX6_mul_374 p3 bn ?_
    rw [cn]
    refine X_if_ne (pc := 375) 389 dX6_mul_375 (by decide) (fun c_375 => ?_) (fun c_375 => ?_)
    · refine two ?_
      have z : 0 < u32 (f (p + 1)) := Nat.pos_of_ne_zero fun z => c_375 (u32_0.mp z)
      have : 1 * 2 ^ (32 * (p + 1)) ≤ u32 (f (p + 1)) * 2 ^ (32 * (p + 1)) := Nat.mul_le_mul_right _ z
      omega
    · have hu : u32 (f (p + 1)) = 0 := by rw [c_375]; rfl
      have hVt2 := hVt
      rw [hu] at hVt2
      refine X_aload_n (pc := 378) 4 dX6_mul_378 rfl rfl ?_
      refine X_aload_n (pc := 379) 1 dX6_mul_379 rfl rfl ?_
      refine X_getfield (pc := 380) dX6_mul_380 fg_X6_13_4 p1 (by first | rfl | assumption) ?_
      refine X_isi (pc := 383) _ dX6_mul_383 cs_X6_64 rfl (compare_ok g p4 p2 (Nat.le_refl _) (by omega)) nX6_compare (Nat.le_of_ble_eq_true rfl) (Nat.le_of_ble_eq_true rfl) (Nat.le_of_ble_eq_true rfl) (Nat.le_of_ble_eq_true rfl) (fun r2 h2 q2 => ?_)
      obtain ⟨er, rfl⟩ := q2
      rw [Vc] at er
      refine X_if_lt (pc := 386) 400 dX6_mul_386 (by decide) (fun c_386 => ?_) (fun c_386 => ?_)
      · refine one ?_ hu
        rw [er] at c_386
        unfold cmpN at c_386
        split at c_386
        · omega
        · split at c_386
          · exact absurd c_386 (by decide)
          · exact absurd c_386 (by decide)
      · refine two ?_
        rw [er] at c_386
        unfold cmpN at c_386
        split at c_386
        · exact absurd (show (-1 : Int32) < 0 by decide) c_386
        · omega
  -- the second inner loop: the lowest limb falls away
  have inner2 : ∀ (i q e : Nat) (f2 : Nat → Int32), q < 2 ^ 32 → e ≤ 1 → f2 (p + 1 + 1) = nI e → (∀ f : Nat → Int32, V (p + 1 + 1) f * 2 ^ 32 = V (p + 1 + 2) f2 + q * V (p + 1) fm →
      XX g MX6_mul ({ frames := 3, cells := 0, slots := 0, locals := 64 } : Room) Q 0 0 31 [(4, .int (nI (i + 1))), (0, .ref M), (1, .ref a), (2, .ref b), (3, .ref out)] [] (hset h (c0 5) (Ai false 0 (p + 1 + 2) f))) →
      ∀ k, k ≤ p → ∀ (f : Nat → Int32) (c : Nat), c < 2 ^ 32 → (∀ j, k ≤ j → f j = f2 j) → V k f * 2 ^ 32 + c * 2 ^ (32 * (k + 1)) = V (k + 1) f2 + q * V (k + 1) fm →
      XX g MX6_mul ({ frames := 3, cells := 0, slots := 0, locals := 64 } : Room) Q 0 0 219 [(11, .int (nI (k + 1))), (7, .long (lN c)), (9, .long (lN q)), (4, .int (nI i)), (0, .ref M), (1, .ref a), (2, .ref b), (3, .ref out)] [] (hset h (c0 5) (Ai false 0 (p + 1 + 2) f)) := by
    intro i q e f2 hq he hfe hx
    refine loop_up p ?_ ?_
    · intro f c hc hf hv
      obtain ⟨o1, o2, o3, o4, o5⟩ := outs f
      have hs := hset_self h (c0 5) (Ai false 0 (p + 1 + 2) f)
      refine X_iload (pc := 219) 0 dX6_mul_219 rfl ?_
      refine X_aload_n (pc := 221) 4 dX6_mul_221 rfl rfl ?_
      refine X_getfield (pc := 222) dX6_mul_222 fg_X6_7_4 o1 (by first | rfl | assumption) ?_
      refine X_cge (pc := 225) 286 dX6_mul_225 (by decide) (by omega) (Nat.le_refl _) (fun _ => ?_) (fun c => absurd c (Nat.lt_irrefl _))
      refine X_lload (pc := 286) 1 dX6_mul_286 rfl ?_
      refine X_aload_n (pc := 288) 4 dX6_mul_288 rfl rfl ?_
      refine X_getfield (pc := 289) dX6_mul_289 fg_X6_26_4 o1 (by first | rfl | assumption) ?_
      refine X_aload_n (pc := 292) 4 dX6_mul_292 rfl rfl ?_
      refine X_getfield (pc := 293) dX6_mul_293 fg_X6_7_4 o1 (by first | rfl | assumption) ?_
      refine X_iaload (pc := 296) dX6_mul_296 hs bn ?_
      rw [cn, hf (p + 1) (by omega)]
      refine X_i2l (pc := 297) dX6_mul_297 ?_
      refine X_ldc2 (pc := 298) dX6_mul_298 q266 ?_
      refine X_land (pc := 301) dX6_mul_301 ?_
      rw [low_lN]
      refine X_ladd (pc := 302) dX6_mul_302 ?_
      rw [lN_add]
      have l1 := u32_lt (f2 (p + 1))
      refine X_lstore (pc := 303) (L' := [(7, .long _), (11, .int _), (9, .long _), (4, .int _), (0, .ref _), (1, .ref _), (2, .ref _), (3, .ref _)]) dX6_mul_303 (Nat.le_of_ble_eq_true rfl) rfl ?_
      refine X_aload_n (pc := 305) 4 dX6_mul_305 rfl rfl ?_
      refine X_getfield (pc := 306) dX6_mul_306 fg_X6_26_4 o1 (by first | rfl | assumption) ?_
      refine X_aload_n (pc := 309) 4 dX6_mul_309 rfl rfl ?_
      refine X_getfield (pc := 310) dX6_mul_310 fg_X6_7_4 o1 (by first | rfl | assumption) ?_
      refine X_iconst (pc := 313) (x := 1) dX6_mul_313 (by decide) ?_
      refine X_isub (pc := 314) dX6_mul_314 ?_
      rw [nI_pred]
      refine X_lload (pc := 315) 0 dX6_mul_315 rfl ?_
      refine X_l2i (pc := 317) dX6_mul_317 ?_
      rw [lN_i]
      refine X_iastore (pc := 318) dX6_mul_318 hs bp ?_
      refine XX.eqh (hset_hset _ _ _ _) ?_
      rw [cp]
      obtain ⟨r1, r2, r3, r4, r5⟩ := outs (upd f p (nI (c + u32 (f2 (p + 1)))))
      have hs2 := hset_self h (c0 5) (Ai false 0 (p + 1 + 2) (upd f p (nI (c + u32 (f2 (p + 1))))))
      refine X_aload_n (pc := 319) 4 dX6_mul_319 rfl rfl ?_
      refine X_getfield (pc := 320) dX6_mul_320 fg_X6_26_4 r1 (by first | rfl | assumption) ?_
      refine X_aload_n (pc := 323) 4 dX6_mul_323 rfl rfl ?_
      refine X_getfield (pc := 324) dX6_mul_324 fg_X6_7_4 r1 (by first | rfl | assumption) ?_
      refine X_aload_n (pc := 327) 4 dX6_mul_327 rfl rfl ?_
      refine X_getfield (pc := 328) dX6_mul_328 fg_X6_26_4 r1 (by first | rfl | assumption) ?_
      refine X_aload_n (pc := 331) 4 dX6_mul_331 rfl rfl ?_
      refine X_getfield (pc := 332) dX6_mul_332 fg_X6_7_4 r1 (by first | rfl | assumption) ?_
      refine X_iconst (pc := 335) (x := 1) dX6_mul_335 (by decide) ?_
      refine X_iadd (pc := 336) dX6_mul_336 ?_
      rw [show nI (p + 1) + 1 = nI (p + 1 + 1) from nI_add _ 1]
      refine X_iaload (pc := 337) dX6_mul_337 hs2 bn1 ?_
      rw [cn1, pk_un (by omega), hf (p + 1 + 1) (by omega), hfe]
      refine X_lload (pc := 338) 0 dX6_mul_338 rfl ?_
      refine X_bipush (pc := 340) (x := 32) dX6_mul_340 (by decide) ?_
      refine X_lushr (pc := 342) dX6_mul_342 ?_
      rw [lsr32 (by omega)]
      refine X_l2i (pc := 343) dX6_mul_343 ?_
      rw [lN_i]
      refine X_iadd (pc := 344) dX6_mul_344 ?_
      rw [nI_add]
      refine X_iastore (pc := 345) dX6_mul_345 hs2 bn ?_
      refine X_iinc (pc := 346) (L' := [(4, .int (_ + 1)), (7, .long _), (11, .int _), (9, .long _), (0, .ref _), (1, .ref _), (2, .ref _), (3, .ref _)]) 3 dX6_mul_346 rfl rfl (Nat.le_of_ble_eq_true rfl) rfl ?_
      refine X_goto (pc := 349) 31 dX6_mul_349 (by decide) ?_
      refine XX.eqh (hset_hset _ _ _ _) ?_
      rw [cn, nI_1]
      refine XX.pick (L' := [(4, .int _), (0, .ref _), (1, .ref _), (2, .ref _), (3, .ref _)]) [0, 4, 5, 6, 7] rfl ?_
      refine hx _ ?_
      have e1 : V (p + 1 + 1) (upd (upd f p (nI (c + u32 (f2 (p + 1))))) (p + 1) (nI (e + (c + u32 (f2 (p + 1))) / 2 ^ 32))) = V p f + (c + u32 (f2 (p + 1))) % 2 ^ 32 * 2 ^ (32 * p) + (e + (c + u32 (f2 (p + 1))) / 2 ^ 32) * 2 ^ (32 * (p + 1)) := by
        rw [V_upd, V_upd, u32_nI, u32_nI, Nat.mod_eq_of_lt (show e + (c + u32 (f2 (p + 1))) / 2 ^ 32 < 2 ^ 32 by omega)]
      have e2 : V (p + 1 + 2) f2 = V (p + 1) f2 + u32 (f2 (p + 1)) * 2 ^ (32 * (p + 1)) + e * 2 ^ (32 * (p + 1 + 1)) := by
        show V (p + 1) f2 + u32 (f2 (p + 1)) * 2 ^ (32 * (p + 1)) + u32 (f2 (p + 1 + 1)) * 2 ^ (32 * (p + 1 + 1)) = _
        rw [hfe, u32_nI, Nat.mod_eq_of_lt (show e < 2 ^ 32 by omega)]
      rw [e1, e2]
      rw [pow_s] at hv
      have := mg_end (e := e) (t := u32 (f2 (p + 1))) hv rfl rfl rfl
      rw [pow_s (p + 1), pow_s p]
      exact this
    · intro k hk ih f c hc hf hv
      obtain ⟨o1, o2, o3, o4, o5⟩ := outs f
      have hs := hset_self h (c0 5) (Ai false 0 (p + 1 + 2) f)
      have ck : (nI k).toNatClampNeg = k := nI_clamp (by omega)
      have ck1 : (nI (k + 1)).toNatClampNeg = k + 1 := nI_clamp (by omega)
      have b0 : vp_in (nI k) (p + 1 + 2) := vp_in_nI (by omega) (by omega)
      have b1 : vp_in (nI (k + 1)) (p + 1) := vp_in_nI (by omega) (by omega)
      have b2 : vp_in (nI (k + 1)) (p + 1 + 2) := vp_in_nI (by omega) (by omega)
      have l1 := u32_lt (fm (k + 1))
      have l2 := u32_lt (f2 (k + 1))
      have hs1 := mulN_lt hq l1 hc l2
      refine X_iload (pc := 219) 0 dX6_mul_219 rfl ?_
      refine X_aload_n (pc := 221) 4 dX6_mul_221 rfl rfl ?_
      refine X_getfield (pc := 222) dX6_mul_222 fg_X6_7_4 o1 (by first | rfl | assumption) ?_
      refine X_cge (pc := 225) 286 dX6_mul_225 (by decide) (by omega) (by omega) (fun c => absurd c (by omega)) (fun _ => ?_)
      refine X_lload (pc := 228) 1 dX6_mul_228 rfl ?_
      refine X_lload (pc := 230) 2 dX6_mul_230 rfl ?_
      refine X_aload_n (pc := 232) 4 dX6_mul_232 rfl rfl ?_
      refine X_getfield (pc := 233) dX6_mul_233 fg_X6_13_4 o1 (by first | rfl | assumption) ?_
      refine X_iload (pc := 236) 0 dX6_mul_236 rfl ?_
      refine X_iaload (pc := 238) dX6_mul_238 o2 b1 ?_
      rw [ck1]
      refine X_i2l (pc := 239) dX6_mul_239 ?_
      refine X_ldc2 (pc := 240) dX6_mul_240 q266 ?_
      refine X_land (pc := 243) dX6_mul_243 ?_
      rw [low_lN]
      refine X_lmul (pc := 244) dX6_mul_244 ?_
      refine X_aload_n (pc := 245) 4 dX6_mul_245 rfl rfl ?_
      refine X_getfield (pc := 246) dX6_mul_246 fg_X6_26_4 o1 (by first | rfl | assumption) ?_
      refine X_iload (pc := 249) 0 dX6_mul_249 rfl ?_
      refine X_iaload (pc := 251) dX6_mul_251 hs b2 ?_
      rw [lN_mul, ck1, hf (k + 1) (by omega)]
      refine X_i2l (pc := 252) dX6_mul_252 ?_
      refine X_ldc2 (pc := 253) dX6_mul_253 q266 ?_
      refine X_land (pc := 256) dX6_mul_256 ?_
      rw [low_lN]
      refine X_ladd (pc := 257) dX6_mul_257 ?_
      refine X_ladd (pc := 258) dX6_mul_258 ?_
      rw [lN_add, lN_add]
      refine X_lstore (pc := 259) (L' := [(7, .long _), (11, .int _), (9, .long _), (4, .int _), (0, .ref _), (1, .ref _), (2, .ref _), (3, .ref _)]) dX6_mul_259 (Nat.le_of_ble_eq_true rfl) rfl ?_
      refine X_aload_n (pc := 261) 4 dX6_mul_261 rfl rfl ?_
      refine X_getfield (pc := 262) dX6_mul_262 fg_X6_26_4 o1 (by first | rfl | assumption) ?_
      refine X_iload (pc := 265) 1 dX6_mul_265 rfl ?_
      refine X_iconst (pc := 267) (x := 1) dX6_mul_267 (by decide) ?_
      refine X_isub (pc := 268) dX6_mul_268 ?_
      rw [nI_pred]
      refine X_lload (pc := 269) 0 dX6_mul_269 rfl ?_
      refine X_l2i (pc := 271) dX6_mul_271 ?_
      rw [lN_i]
      refine X_iastore (pc := 272) dX6_mul_272 hs b0 ?_
      refine XX.eqh (hset_hset _ _ _ _) ?_
      rw [ck]
      refine X_lload (pc := 273) 0 dX6_mul_273 rfl ?_
      refine X_bipush (pc := 275) (x := 32) dX6_mul_275 (by decide) ?_
      refine X_lushr (pc := 277) dX6_mul_277 ?_
      rw [lsr32 hs1]
      refine X_lstore (pc := 278) (L' := [(7, .long _), (11, .int _), (9, .long _), (4, .int _), (0, .ref _), (1, .ref _), (2, .ref _), (3, .ref _)]) dX6_mul_278 (Nat.le_of_ble_eq_true rfl) rfl ?_
      refine X_iinc (pc := 280) (L' := [(11, .int (_ + 1)), (7, .long _), (9, .long _), (4, .int _), (0, .ref _), (1, .ref _), (2, .ref _), (3, .ref _)]) 1 dX6_mul_280 rfl rfl (Nat.le_of_ble_eq_true rfl) rfl ?_
      refine X_goto (pc := 283) 219 dX6_mul_283 (by decide) ?_
      rw [nI_1]
      refine ih _ _ (by omega) (fun j hj => ?_) ?_
      · rw [pk_un (by omega)]
        exact hf j (by omega)
      · rw [V_upd, pow_s (k + 1)]
        exact mg_red (t := u32 (f2 (k + 1))) (m := u32 (fm (k + 1))) hv (by rw [u32_nI]; omega) _ (pow_s k)
  -- the first inner loop
  have inner1 : ∀ (i : Nat) (f0 : Nat → Int32), i < p + 1 → (∀ (f : Nat → Int32) (c : Nat), c < 2 ^ 32 → (∀ j, p + 1 ≤ j → f j = f0 j) → V (p + 1) f + c * 2 ^ (32 * (p + 1)) = V (p + 1) f0 + u32 (fa i) * V (p + 1) fb →
      XX g MX6_mul ({ frames := 3, cells := 0, slots := 0, locals := 64 } : Room) Q 0 0 119 [(7, .long (lN c)), (4, .int (nI i)), (0, .ref M), (1, .ref a), (2, .ref b), (3, .ref out)] [] (hset h (c0 5) (Ai false 0 (p + 1 + 2) f))) →
      ∀ k, k ≤ p + 1 → ∀ (f : Nat → Int32) (c : Nat), c < 2 ^ 32 → (∀ j, k ≤ j → f j = f0 j) → V k f + c * 2 ^ (32 * k) = V k f0 + u32 (fa i) * V k fb →
      XX g MX6_mul ({ frames := 3, cells := 0, slots := 0, locals := 64 } : Room) Q 0 0 57 [(9, .int (nI k)), (7, .long (lN c)), (5, .long (lN (u32 (fa i)))), (4, .int (nI i)), (0, .ref M), (1, .ref a), (2, .ref b), (3, .ref out)] [] (hset h (c0 5) (Ai false 0 (p + 1 + 2) f)) := by
    intro i f0 hi hx
    refine loop_up (p + 1) ?_ ?_
    · intro f c hc hf hv
      obtain ⟨o1, o2, o3, o4, o5⟩ := outs f
      refine X_iload (pc := 57) 0 dX6_mul_57 rfl ?_
      refine X_aload_n (pc := 59) 4 dX6_mul_59 rfl rfl ?_
      refine X_getfield (pc := 60) dX6_mul_60 fg_X6_7_4 o1 (by first | rfl | assumption) ?_
      refine X_cge (pc := 63) 119 dX6_mul_63 (by decide) (by omega) (Nat.le_refl _) (fun _ => ?_) (fun c => absurd c (Nat.lt_irrefl _))
      refine XX.pick (L' := [(7, .long _), (4, .int _), (0, .ref _), (1, .ref _), (2, .ref _), (3, .ref _)]) [1, 3, 4, 5, 6, 7] rfl ?_
      exact hx f c hc hf hv
    · intro k hk ih f c hc hf hv
      obtain ⟨o1, o2, o3, o4, o5⟩ := outs f
      have hs := hset_self h (c0 5) (Ai false 0 (p + 1 + 2) f)
      have ck : (nI k).toNatClampNeg = k := nI_clamp (by omega)
      have b1 : vp_in (nI k) (p + 1) := vp_in_nI (by omega) (by omega)
      have b2 : vp_in (nI k) (p + 1 + 2) := vp_in_nI (by omega) (by omega)
      have l1 := u32_lt (fa i)
      have l2 := u32_lt (fb k)
      have l3 := u32_lt (f0 k)
      have hs1 := mulN_lt l1 l2 hc l3
      refine X_iload (pc := 57) 0 dX6_mul_57 rfl ?_
      refine X_aload_n (pc := 59) 4 dX6_mul_59 rfl rfl ?_
      refine X_getfield (pc := 60) dX6_mul_60 fg_X6_7_4 o1 (by first | rfl | assumption) ?_
      refine X_cge (pc := 63) 119 dX6_mul_63 (by decide) (by omega) (by omega) (fun c => absurd c (by omega)) (fun _ => ?_)
      refine X_lload (pc := 66) 1 dX6_mul_66 rfl ?_
      refine X_lload (pc := 68) 2 dX6_mul_68 rfl ?_
      refine X_aload_n (pc := 70) 6 dX6_mul_70 rfl rfl ?_
      refine X_iload (pc := 71) 0 dX6_mul_71 rfl ?_
      refine X_iaload (pc := 73) dX6_mul_73 o4 b1 ?_
      rw [ck]
      refine X_i2l (pc := 74) dX6_mul_74 ?_
      refine X_ldc2 (pc := 75) dX6_mul_75 q266 ?_
      refine X_land (pc := 78) dX6_mul_78 ?_
      rw [low_lN]
      refine X_lmul (pc := 79) dX6_mul_79 ?_
      refine X_aload_n (pc := 80) 4 dX6_mul_80 rfl rfl ?_
      refine X_getfield (pc := 81) dX6_mul_81 fg_X6_26_4 o1 (by first | rfl | assumption) ?_
      refine X_iload (pc := 84) 0 dX6_mul_84 rfl ?_
      refine X_iaload (pc := 86) dX6_mul_86 hs b2 ?_
      rw [lN_mul, ck, hf k (Nat.le_refl k)]
      refine X_i2l (pc := 87) dX6_mul_87 ?_
      refine X_ldc2 (pc := 88) dX6_mul_88 q266 ?_
      refine X_land (pc := 91) dX6_mul_91 ?_
      rw [low_lN]
      refine X_ladd (pc := 92) dX6_mul_92 ?_
      refine X_ladd (pc := 93) dX6_mul_93 ?_
      rw [lN_add, lN_add]
      refine X_lstore (pc := 94) (L' := [(7, .long _), (9, .int _), (5, .long _), (4, .int _), (0, .ref _), (1, .ref _), (2, .ref _), (3, .ref _)]) dX6_mul_94 (Nat.le_of_ble_eq_true rfl) rfl ?_
      refine X_aload_n (pc := 96) 4 dX6_mul_96 rfl rfl ?_
      refine X_getfield (pc := 97) dX6_mul_97 fg_X6_26_4 o1 (by first | rfl | assumption) ?_
      refine X_iload (pc := 100) 1 dX6_mul_100 rfl ?_
      refine X_lload (pc := 102) 0 dX6_mul_102 rfl ?_
      refine X_l2i (pc := 104) dX6_mul_104 ?_
      rw [lN_i]
      refine X_iastore (pc := 105) dX6_mul_105 hs b2 ?_
      refine XX.eqh (hset_hset _ _ _ _) ?_
      rw [ck]
      refine X_lload (pc := 106) 0 dX6_mul_106 rfl ?_
      refine X_bipush (pc := 108) (x := 32) dX6_mul_108 (by decide) ?_
      refine X_lushr (pc := 110) dX6_mul_110 ?_
      rw [lsr32 hs1]
      refine X_lstore (pc := 111) (L' := [(7, .long _), (9, .int _), (5, .long _), (4, .int _), (0, .ref _), (1, .ref _), (2, .ref _), (3, .ref _)]) dX6_mul_111 (Nat.le_of_ble_eq_true rfl) rfl ?_
      refine X_iinc (pc := 113) (L' := [(9, .int (_ + 1)), (7, .long _), (5, .long _), (4, .int _), (0, .ref _), (1, .ref _), (2, .ref _), (3, .ref _)]) 1 dX6_mul_113 rfl rfl (Nat.le_of_ble_eq_true rfl) rfl ?_
      refine X_goto (pc := 116) 57 dX6_mul_116 (by decide) ?_
      rw [nI_1]
      refine ih _ _ (by omega) (fun j hj => ?_) ?_
      · rw [pk_un (by omega)]
        exact hf j (by omega)
      · rw [V_upd, pow_s k]
        exact V_mulN (y := u32 (f0 k)) hv (by rw [u32_nI]; omega)
  -- the outer loop
  have outer := loop_up (P := fun i => ∀ f : Nat → Int32, V (p + 1 + 1) f < V (p + 1) fb + V (p + 1) fm → (∃ q, V (p + 1 + 1) f * 2 ^ (32 * i) = V i fa * V (p + 1) fb + q * V (p + 1) fm) →
      XX g MX6_mul ({ frames := 3, cells := 0, slots := 0, locals := 64 } : Room) Q 0 0 31 [(4, .int (nI i)), (0, .ref M), (1, .ref a), (2, .ref b), (3, .ref out)] [] (hset h (c0 5) (Ai false 0 (p + 1 + 2) f))) (p + 1)
    (by
      intro f hb2 hmod
      obtain ⟨o1, o2, o3, o4, o5⟩ := outs f
      refine X_iload (pc := 31) 0 dX6_mul_31 rfl ?_
      refine X_aload_n (pc := 33) 1 dX6_mul_33 rfl rfl ?_
      refine X_getfield (pc := 34) dX6_mul_34 fg_X6_7_4 o1 (by first | rfl | assumption) ?_
      refine X_cge (pc := 37) 352 dX6_mul_37 (by decide) (by omega) (Nat.le_refl _) (fun _ => ?_) (fun c => absurd c (Nat.lt_irrefl _))
      exact fin f hb2 hmod)
    (fun i hi ih f hb2 hmod => by
      obtain ⟨o1, o2, o3, o4, o5⟩ := outs f
      have ci : (nI i).toNatClampNeg = i := nI_clamp (by omega)
      have bi : vp_in (nI i) (p + 1) := vp_in_nI (by omega) (by omega)
      refine X_iload (pc := 31) 0 dX6_mul_31 rfl ?_
      refine X_aload_n (pc := 33) 1 dX6_mul_33 rfl rfl ?_
      refine X_getfield (pc := 34) dX6_mul_34 fg_X6_7_4 o1 (by first | rfl | assumption) ?_
      refine X_cge (pc := 37) 352 dX6_mul_37 (by decide) (by omega) (by omega) (fun c => absurd c (by omega)) (fun _ => ?_)
      refine X_aload_n (pc := 40) 2 dX6_mul_40 rfl rfl ?_
      refine X_iload (pc := 41) 0 dX6_mul_41 rfl ?_
      refine X_iaload (pc := 43) dX6_mul_43 o3 bi ?_
      rw [ci]
      refine X_i2l (pc := 44) dX6_mul_44 ?_
      refine X_ldc2 (pc := 45) dX6_mul_45 q266 ?_
      refine X_land (pc := 48) dX6_mul_48 ?_
      rw [low_lN]
      refine X_lstore (pc := 49) (L' := [(5, .long _), (4, .int _), (0, .ref _), (1, .ref _), (2, .ref _), (3, .ref _)]) dX6_mul_49 (Nat.le_of_ble_eq_true rfl) rfl ?_
      refine X_lconst (pc := 51) (x := 0) dX6_mul_51 (by decide) ?_
      refine X_lstore (pc := 52) (L' := [(7, .long _), (5, .long _), (4, .int _), (0, .ref _), (1, .ref _), (2, .ref _), (3, .ref _)]) dX6_mul_52 (Nat.le_of_ble_eq_true rfl) rfl ?_
      refine X_iconst (pc := 54) (x := 0) dX6_mul_54 (by decide) ?_
      refine X_istore (pc := 55) (L' := [(9, .int _), (7, .long _), (5, .long _), (4, .int _), (0, .ref _), (1, .ref _), (2, .ref _), (3, .ref _)]) dX6_mul_55 (Nat.le_of_ble_eq_true rfl) rfl ?_
      refine inner1 i f hi ?_ 0 (Nat.zero_le _) f 0 (by decide) (fun _ _ => rfl) (by show 0 + 0 * _ = 0 + _ * 0; omega)
      intro f1 c hc hf1 hv1
      obtain ⟨s1, s2, s3, s4, s5⟩ := outs f1
      have hs := hset_self h (c0 5) (Ai false 0 (p + 1 + 2) f1)
      have l1 := u32_lt (f (p + 1))
      refine X_lload (pc := 119) 0 dX6_mul_119 rfl ?_
      refine X_aload_n (pc := 121) 2 dX6_mul_121 rfl rfl ?_
      refine X_getfield (pc := 122) dX6_mul_122 fg_X6_26_4 s1 (by first | rfl | assumption) ?_
      refine X_aload_n (pc := 125) 2 dX6_mul_125 rfl rfl ?_
      refine X_getfield (pc := 126) dX6_mul_126 fg_X6_7_4 s1 (by first | rfl | assumption) ?_
      refine X_iaload (pc := 129) dX6_mul_129 hs bn ?_
      rw [cn, hf1 (p + 1) (Nat.le_refl _)]
      refine X_i2l (pc := 130) dX6_mul_130 ?_
      refine X_ldc2 (pc := 131) dX6_mul_131 q266 ?_
      refine X_land (pc := 134) dX6_mul_134 ?_
      rw [low_lN]
      refine X_ladd (pc := 135) dX6_mul_135 ?_
      rw [lN_add]
      refine X_lstore (pc := 136) (L' := [(7, .long _), (4, .int _), (0, .ref _), (1, .ref _), (2, .ref _), (3, .ref _)]) dX6_mul_136 (Nat.le_of_ble_eq_true rfl) rfl ?_
      refine X_aload_n (pc := 138) 2 dX6_mul_138 rfl rfl ?_
      refine X_getfield (pc := 139) dX6_mul_139 fg_X6_26_4 s1 (by first | rfl | assumption) ?_
      refine X_aload_n (pc := 142) 2 dX6_mul_142 rfl rfl ?_
      refine X_getfield (pc := 143) dX6_mul_143 fg_X6_7_4 s1 (by first | rfl | assumption) ?_
      refine X_lload (pc := 146) 0 dX6_mul_146 rfl ?_
      refine X_l2i (pc := 148) dX6_mul_148 ?_
      rw [lN_i]
      refine X_iastore (pc := 149) dX6_mul_149 hs bn ?_
      refine XX.eqh (hset_hset _ _ _ _) ?_
      rw [cn]
      obtain ⟨t1, t2, t3, t4, t5⟩ := outs (upd f1 (p + 1) (nI (c + u32 (f (p + 1)))))
      have hs2 := hset_self h (c0 5) (Ai false 0 (p + 1 + 2) (upd f1 (p + 1) (nI (c + u32 (f (p + 1))))))
      refine X_aload_n (pc := 150) 2 dX6_mul_150 rfl rfl ?_
      refine X_getfield (pc := 151) dX6_mul_151 fg_X6_26_4 t1 (by first | rfl | assumption) ?_
      refine X_aload_n (pc := 154) 2 dX6_mul_154 rfl rfl ?_
      refine X_getfield (pc := 155) dX6_mul_155 fg_X6_7_4 t1 (by first | rfl | assumption) ?_
      refine X_iconst (pc := 158) (x := 1) dX6_mul_158 (by decide) ?_
      refine X_iadd (pc := 159) dX6_mul_159 ?_
      rw [show nI (p + 1) + 1 = nI (p + 1 + 1) from nI_add _ 1]
      refine X_lload (pc := 160) 0 dX6_mul_160 rfl ?_
      refine X_bipush (pc := 162) (x := 32) dX6_mul_162 (by decide) ?_
      refine X_lushr (pc := 164) dX6_mul_164 ?_
      rw [lsr32 (by omega)]
      refine X_l2i (pc := 165) dX6_mul_165 ?_
      rw [lN_i]
      refine X_iastore (pc := 166) dX6_mul_166 hs2 bn1 ?_
      refine XX.eqh (hset_hset _ _ _ _) ?_
      rw [cn1]
      have hf2e : upd (upd f1 (p + 1) (nI (c + u32 (f (p + 1))))) (p + 1 + 1) (nI ((c + u32 (f (p + 1))) / 2 ^ 32)) (p + 1 + 1) = nI ((c + u32 (f (p + 1))) / 2 ^ 32) := pk_us
      have hf2V : V (p + 1 + 2) (upd (upd f1 (p + 1) (nI (c + u32 (f (p + 1))))) (p + 1 + 1) (nI ((c + u32 (f (p + 1))) / 2 ^ 32))) = V (p + 1 + 1) f + u32 (fa i) * V (p + 1) fb := by
        rw [V_upd, V_upd, u32_nI, u32_nI, Nat.mod_eq_of_lt (show (c + u32 (f (p + 1))) / 2 ^ 32 < 2 ^ 32 by omega), pow_s (p + 1)]
        exact mg_mid (t := u32 (f (p + 1))) hv1 rfl rfl rfl
      generalize upd (upd f1 (p + 1) (nI (c + u32 (f (p + 1))))) (p + 1 + 1) (nI ((c + u32 (f (p + 1))) / 2 ^ 32)) = f2 at hf2e hf2V
      obtain ⟨v1, v2, v3, v4, v5⟩ := outs f2
      have hs3 := hset_self h (c0 5) (Ai false 0 (p + 1 + 2) f2)
      refine X_aload_n (pc := 167) 2 dX6_mul_167 rfl rfl ?_
      refine X_getfield (pc := 168) dX6_mul_168 fg_X6_26_4 v1 (by first | rfl | assumption) ?_
      refine X_iconst (pc := 171) (x := 0) dX6_mul_171 (by decide) ?_
      refine X_iaload (pc := 172) dX6_mul_172 hs3 bz2 ?_
      refine X_aload_n (pc := 173) 2 dX6_mul_173 rfl rfl ?_
      refine X_getfield (pc := 174) dX6_mul_174 fg_X6_41_4 v1 (by first | rfl | assumption) ?_
      refine X_imul (pc := 177) dX6_mul_177 ?_
      rw [cz]
      refine X_i2l (pc := 178) dX6_mul_178 ?_
      refine X_ldc2 (pc := 179) dX6_mul_179 q266 ?_
      refine X_land (pc := 182) dX6_mul_182 ?_
      rw [low_lN]
      have lq := u32_lt (f2 0 * ng)
      have eq : u32 (f2 0 * ng) = u32 (f2 0) * u32 ng % 2 ^ 32 := u32_mul _ _
      have lm := u32_lt (fm 0)
      have lt := u32_lt (f2 0)
      have lo := mg_low (t0 := u32 (f2 0)) hng
      rw [← eq] at lo
      generalize u32 (f2 0 * ng) = q at lq eq lo
      have hs4 := mulN_lt (c := 0) lq lm (by decide) lt
      refine X_lstore (pc := 183) (L' := [(9, .long _), (7, .long _), (4, .int _), (0, .ref _), (1, .ref _), (2, .ref _), (3, .ref _)]) dX6_mul_183 (Nat.le_of_ble_eq_true rfl) rfl ?_
      refine X_lload (pc := 185) 0 dX6_mul_185 rfl ?_
      refine X_aload_n (pc := 187) 3 dX6_mul_187 rfl rfl ?_
      refine X_getfield (pc := 188) dX6_mul_188 fg_X6_13_4 v1 (by first | rfl | assumption) ?_
      refine X_iconst (pc := 191) (x := 0) dX6_mul_191 (by decide) ?_
      refine X_iaload (pc := 192) dX6_mul_192 v2 bz ?_
      rw [cz]
      refine X_i2l (pc := 193) dX6_mul_193 ?_
      refine X_ldc2 (pc := 194) dX6_mul_194 q266 ?_
      refine X_land (pc := 197) dX6_mul_197 ?_
      rw [low_lN]
      refine X_lmul (pc := 198) dX6_mul_198 ?_
      refine X_aload_n (pc := 199) 3 dX6_mul_199 rfl rfl ?_
      refine X_getfield (pc := 200) dX6_mul_200 fg_X6_26_4 v1 (by first | rfl | assumption) ?_
      refine X_iconst (pc := 203) (x := 0) dX6_mul_203 (by decide) ?_
      refine X_iaload (pc := 204) dX6_mul_204 hs3 bz2 ?_
      rw [lN_mul, cz]
      refine X_i2l (pc := 205) dX6_mul_205 ?_
      refine X_ldc2 (pc := 206) dX6_mul_206 q266 ?_
      refine X_land (pc := 209) dX6_mul_209 ?_
      rw [low_lN]
      refine X_ladd (pc := 210) dX6_mul_210 ?_
      refine X_bipush (pc := 211) (x := 32) dX6_mul_211 (by decide) ?_
      refine X_lushr (pc := 213) dX6_mul_213 ?_
      rw [lN_add, lsr32 (by omega)]
      refine X_lstore (pc := 214) (L' := [(7, .long _), (9, .long _), (4, .int _), (0, .ref _), (1, .ref _), (2, .ref _), (3, .ref _)]) dX6_mul_214 (Nat.le_of_ble_eq_true rfl) rfl ?_
      refine X_iconst (pc := 216) (x := 1) dX6_mul_216 (by decide) ?_
      refine X_istore (pc := 217) (L' := [(11, .int _), (7, .long _), (9, .long _), (4, .int _), (0, .ref _), (1, .ref _), (2, .ref _), (3, .ref _)]) dX6_mul_217 (Nat.le_of_ble_eq_true rfl) rfl ?_
      refine XX.pick (L' := [(11, .int _), (7, .long _), (9, .long _), (4, .int _), (0, .ref _), (1, .ref _), (2, .ref _), (3, .ref _)]) [0, 1, 2, 3, 4, 5, 6, 7] rfl ?_
      refine inner2 i q ((c + u32 (f (p + 1))) / 2 ^ 32) f2 lq (by omega) hf2e ?_ 0 (Nat.zero_le p) f2 _ (by omega) (fun _ _ => rfl) ?_
      · intro f3 hv3
        rw [hf2V] at hv3
        refine ih f3 (mg_lt hv3 hb2 (u32_lt _) lq) ?_
        rw [pow_s i]
        exact mg_step hv3 hmod
      · show 0 * 2 ^ 32 + (q * u32 (fm 0) + u32 (f2 0)) / 2 ^ 32 * 2 ^ (32 * 1) = (0 + u32 (f2 0) * 2 ^ (32 * 0)) + q * (0 + u32 (fm 0) * 2 ^ (32 * 0))
        simp only [Nat.mul_zero, Nat.pow_zero, Nat.mul_one, Nat.zero_mul, Nat.zero_add]
        omega)
  -- zeros
  have zeros := loop_up (P := fun k => ∀ f : Nat → Int32, (∀ j, j < k → f j = 0) →
      XX g MX6_mul ({ frames := 3, cells := 0, slots := 0, locals := 64 } : Room) Q 0 0 3 [(4, .int (nI k)), (0, .ref M), (1, .ref a), (2, .ref b), (3, .ref out)] [] (hset h (c0 5) (Ai false 0 (p + 1 + 2) f))) (p + 1 + 2)
    (by
      intro f hf
      obtain ⟨o1, o2, o3, o4, o5⟩ := outs f
      refine X_iload (pc := 3) 0 dX6_mul_3 rfl ?_
      refine X_aload_n (pc := 5) 1 dX6_mul_5 rfl rfl ?_
      refine X_getfield (pc := 6) dX6_mul_6 fg_X6_7_4 o1 (by first | rfl | assumption) ?_
      refine X_iconst (pc := 9) (x := 2) dX6_mul_9 (by decide) ?_
      refine X_iadd (pc := 10) dX6_mul_10 ?_
      rw [show nI (p + 1) + 2 = nI (p + 1 + 2) from nI_add _ 2]
      refine X_cge (pc := 11) 28 dX6_mul_11 (by decide) (by omega) (Nat.le_refl _) (fun _ => ?_) (fun c => absurd c (Nat.lt_irrefl _))
      refine X_iconst (pc := 28) (x := 0) dX6_mul_28 (by decide) ?_
      refine X_istore (pc := 29) (L' := [(4, .int _), (0, .ref _), (1, .ref _), (2, .ref _), (3, .ref _)]) dX6_mul_29 (Nat.le_of_ble_eq_true rfl) rfl ?_
      have z : V (p + 1 + 1) f = 0 := (V_0 _ f).mpr fun j hj => hf j (by omega)
      refine outer 0 (Nat.zero_le _) f (by omega) ⟨0, ?_⟩
      rw [z]
      show 0 * _ = 0 * _ + 0 * _
      omega)
    (fun k hk ih f hf => by
      obtain ⟨o1, o2, o3, o4, o5⟩ := outs f
      have ck : (nI k).toNatClampNeg = k := nI_clamp (by omega)
      have b3 : vp_in (nI k) (p + 1 + 2) := vp_in_nI (by omega) (by omega)
      refine X_iload (pc := 3) 0 dX6_mul_3 rfl ?_
      refine X_aload_n (pc := 5) 1 dX6_mul_5 rfl rfl ?_
      refine X_getfield (pc := 6) dX6_mul_6 fg_X6_7_4 o1 (by first | rfl | assumption) ?_
      refine X_iconst (pc := 9) (x := 2) dX6_mul_9 (by decide) ?_
      refine X_iadd (pc := 10) dX6_mul_10 ?_
      rw [show nI (p + 1) + 2 = nI (p + 1 + 2) from nI_add _ 2]
      refine X_cge (pc := 11) 28 dX6_mul_11 (by decide) (by omega) (by omega) (fun c => absurd c (by omega)) (fun _ => ?_)
      refine X_aload_n (pc := 14) 1 dX6_mul_14 rfl rfl ?_
      refine X_getfield (pc := 15) dX6_mul_15 fg_X6_26_4 o1 (by first | rfl | assumption) ?_
      refine X_iload (pc := 18) 0 dX6_mul_18 rfl ?_
      refine X_iconst (pc := 20) (x := 0) dX6_mul_20 (by decide) ?_
      refine X_iastore (pc := 21) dX6_mul_21 (hset_self _ _ _) b3 ?_
      refine X_iinc (pc := 22) (L' := [(4, .int (_ + 1)), (0, .ref _), (1, .ref _), (2, .ref _), (3, .ref _)]) 0 dX6_mul_22 rfl rfl (Nat.le_of_ble_eq_true rfl) rfl ?_
      refine X_goto (pc := 25) 3 dX6_mul_25 (by decide) ?_
      refine XX.eqh (hset_hset _ _ _ _) ?_
      rw [ck, nI_1]
      refine ih _ (fun j hj => ?_)
      by_cases e : j = k
      · subst e; exact pk_us
      · rw [pk_un e]; exact hf j (by omega))
  refine X_iconst (pc := 0) (x := 0) dX6_mul_0 (by decide) ?_
  refine X_istore (pc := 1) (L' := [(4, .int _), (0, .ref _), (1, .ref _), (2, .ref _), (3, .ref _)]) dX6_mul_1 (Nat.le_of_ble_eq_true rfl) rfl ?_
  refine XX.eqh (hset_same ht).symm ?_
  exact zeros 0 (Nat.zero_le _) ft (fun j hj => absurd hj (Nat.not_lt_zero j))
