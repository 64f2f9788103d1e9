set_option maxRecDepth 100000
/-! VeilMint's moduli: shift, half, inverse, isBelow, in, from -/
theorem xshift_ok (g : GX) {h : AH} {a n : Nat} {o : Int32} {fa : Nat → Int32} (ha : h a = some (Ai false 0 n fa)) (hn : n < 2 ^ 31) :
    MT g MX6_shift ({ frames := 0, cells := 0, slots := 0, locals := 0 } : Room) [.ref a, .int o] h (RV fun h' => h' = hset h a (Ai false 0 n (hvF n n fa o))) := by
  refine MT.of (by decide) (Nat.le_of_ble_eq_true rfl) ?_
  have loop := loop_up (P := fun k => XX g MX6_shift ({ frames := 0, cells := 0, slots := 0, locals := 0 } : Room) (RV fun h' => h' = hset h a (Ai false 0 n (hvF n n fa o))) 0 0 2 [(2, .int (nI k)), (0, .ref a), (1, .int o)] [] (hset h a (Ai false 0 n (hvF n k fa o)))) n
    (by
      have hs := hset_self h a (Ai false 0 n (hvF n n fa o))
      refine X_iload_n (pc := 2) 0 dX6_shift_2 rfl rfl ?_
      refine X_aload_n (pc := 3) 1 dX6_shift_3 rfl rfl ?_
      refine X_alenI (pc := 4) dX6_shift_4 hs (fun _ => rfl) ?_
      refine X_cge (pc := 5) 43 dX6_shift_5 (by decide) (by omega) (Nat.le_refl n) (fun _ => ?_) (fun c => absurd c (Nat.lt_irrefl _))
      refine X_return (pc := 43) dX6_shift_43 rfl (Nat.le_of_ble_eq_true rfl) (Nat.le_of_ble_eq_true rfl) ?_
      exact ⟨rfl, rfl⟩)
    (fun k hk ih => by
      have ck : (nI k).toNatClampNeg = k := nI_clamp (by omega)
      have ck1 : (nI (k + 1)).toNatClampNeg = k + 1 := nI_clamp (by omega)
      have b1 : vp_in (nI k) n := vp_in_nI (by omega) (by omega)
      have hs := hset_self h a (Ai false 0 n (hvF n k fa o))
      have fin : ∀ y : Int32, y = (if k + 1 < n then fa (k + 1) else o) → XX g MX6_shift ({ frames := 0, cells := 0, slots := 0, locals := 0 } : Room) (RV fun h' => h' = hset h a (Ai false 0 n (hvF n n fa o))) 0 0 32 [(2, .int (nI k)), (0, .ref a), (1, .int o)] [.int y, .int ((fa k).toUInt32 >>> ((1 : Int32).toUInt32 &&& Int32.toUInt32 31)).toInt32, .int (nI k), .ref a] (hset h a (Ai false 0 n (hvF n k fa o))) := by
        intro y hy
        refine X_bipush (pc := 32) (x := 31) dX6_shift_32 (by decide) ?_
        refine X_ishl (pc := 34) dX6_shift_34 ?_
        refine X_ior (pc := 35) dX6_shift_35 ?_
        refine X_iastore (pc := 36) dX6_shift_36 hs b1 ?_
        refine X_iinc (pc := 37) (L' := [(2, .int (_ + 1)), (0, .ref _), (1, .int _)]) 0 dX6_shift_37 rfl rfl (Nat.le_of_ble_eq_true rfl) rfl ?_
        refine X_goto (pc := 40) 2 dX6_shift_40 (by decide) ?_
        refine XX.eqh (hset_hset _ _ _ _) ?_
        have e : (((fa k).toUInt32 >>> ((1 : Int32).toUInt32 &&& Int32.toUInt32 31)).toInt32 ||| y <<< ((31 : Int32) &&& 31)) = hl (fa k) (if k + 1 < n then fa (k + 1) else o) := by rw [hy]; rfl
        rw [ck, e, hvF_s, nI_1]
        exact ih
      refine X_iload_n (pc := 2) 0 dX6_shift_2 rfl rfl ?_
      refine X_aload_n (pc := 3) 1 dX6_shift_3 rfl rfl ?_
      refine X_alenI (pc := 4) dX6_shift_4 hs (fun _ => rfl) ?_
      refine X_cge (pc := 5) 43 dX6_shift_5 (by decide) (by omega) (by omega) (fun c => absurd c (by omega)) (fun _ => ?_)
      refine X_aload_n (pc := 8) 1 dX6_shift_8 rfl rfl ?_
      refine X_iload_n (pc := 9) 0 dX6_shift_9 rfl rfl ?_
      refine X_aload_n (pc := 10) 1 dX6_shift_10 rfl rfl ?_
      refine X_iload_n (pc := 11) 0 dX6_shift_11 rfl rfl ?_
      refine X_iaload (pc := 12) dX6_shift_12 hs b1 ?_
      refine X_iconst (pc := 13) (x := 1) dX6_shift_13 (by decide) ?_
      refine X_iushr (pc := 14) dX6_shift_14 ?_
      rw [ck, hvF_ge (Nat.le_refl k)]
      refine X_iload_n (pc := 15) 0 dX6_shift_15 rfl rfl ?_
      refine X_iconst (pc := 16) (x := 1) dX6_shift_16 (by decide) ?_
      refine X_iadd (pc := 17) dX6_shift_17 ?_
      rw [nI_1]
      refine X_aload_n (pc := 18) 1 dX6_shift_18 rfl rfl ?_
      refine X_alenI (pc := 19) dX6_shift_19 hs (fun _ => rfl) ?_
      refine X_cge (pc := 20) 31 dX6_shift_20 (by decide) (by omega) (by omega) (fun c => ?_) (fun c => ?_)
      · refine X_iload_n (pc := 31) 2 dX6_shift_31 rfl rfl ?_
        exact fin _ (by rw [if_neg (by omega)])
      · refine X_aload_n (pc := 23) 1 dX6_shift_23 rfl rfl ?_
        refine X_iload_n (pc := 24) 0 dX6_shift_24 rfl rfl ?_
        refine X_iconst (pc := 25) (x := 1) dX6_shift_25 (by decide) ?_
        refine X_iadd (pc := 26) dX6_shift_26 ?_
        rw [nI_1]
        have b2 : vp_in (nI (k + 1)) n := vp_in_nI (by omega) (by omega)
        refine X_iaload (pc := 27) dX6_shift_27 hs b2 ?_
        refine X_goto (pc := 28) 32 dX6_shift_28 (by decide) ?_
        rw [ck1, hvF_ge (by omega)]
        exact fin _ (by rw [if_pos c]))
  refine X_iconst (pc := 0) (x := 0) dX6_shift_0 (by decide) ?_
  refine X_istore_n (pc := 1) (L' := [(2, .int _), (0, .ref _), (1, .int _)]) dX6_shift_1 rfl (Nat.le_of_ble_eq_true rfl) rfl ?_
  refine XX.eqh (hset_same ha).symm ?_
  have := loop 0 (Nat.zero_le n)
  rw [hvF_0] at this
  exact this
set_option maxHeartbeats 4000000 in
theorem xhalf_ok (g : GX) {h : AH} {M am a n : Nat} {fs : List Value} {fm fa : Nat → Int32} (hM : h M = some (Ob 4 fs)) (h1 : fs[1]? = some (.ref am)) (hm : h am = some (Ai false 0 n fm)) (ha : h a = some (Ai false 0 n fa)) (hne : am ≠ a) (h0 : 0 < n) (hl : n < 2 ^ 31) (hodd : V n fm % 2 = 1) :
    MT g MX6_half ({ frames := 1, cells := 0, slots := 0, locals := 25 } : Room) [.ref M, .ref a] h (RV fun h' => ∃ f, V n f = hvN (V n fm) (V n fa) ∧ h' = hset h a (Ai false 0 n f)) := by
  refine MT.of (by decide) (Nat.le_of_ble_eq_true rfl) ?_
  have hMa : M ≠ a := ne_of hM ha (fun e => by cases e)
  have hp := V_par h0 fa
  have hlt := V_lt n fa
  have b0 : vp_in (0 : Int32) n := vp_in_nI (n := 0) (by omega) hl
  have c0 : (0 : Int32).toNatClampNeg = 0 := rfl
  refine X_iconst (pc := 0) (x := 0) dX6_half_0 (by decide) ?_
  refine X_istore_n (pc := 1) (L' := [(2, .int _), (0, .ref _), (1, .ref _)]) dX6_half_1 rfl (Nat.le_of_ble_eq_true rfl) rfl ?_
  refine X_aload_n (pc := 2) 2 dX6_half_2 rfl rfl ?_
  refine X_iconst (pc := 3) (x := 0) dX6_half_3 (by decide) ?_
  refine X_iaload (pc := 4) dX6_half_4 ha b0 ?_
  rw [c0]
  refine X_iconst (pc := 5) (x := 1) dX6_half_5 (by decide) ?_
  refine X_iand (pc := 6) dX6_half_6 ?_
  rw [and1_u32, ← hp]
  refine X_iconst (pc := 7) (x := 1) dX6_half_7 (by decide) ?_
  refine X_icmp_ne (pc := 8) 21 dX6_half_8 (by decide) (fun c_8 => ?_) (fun c_8 => ?_)
  · have hev : V n fa % 2 = 0 := by
      rcases Nat.mod_two_eq_zero_or_one (V n fa) with e | e
      · exact e
      · rw [e] at c_8; exact absurd rfl c_8
    refine X_aload_n (pc := 21) 2 dX6_half_21 rfl rfl ?_
    refine X_iload_n (pc := 22) 0 dX6_half_22 rfl rfl ?_
    refine X_isv (pc := 23) _ dX6_half_23 cs_X6_85 rfl (xshift_ok g ha hl) nX6_shift (Nat.le_of_ble_eq_true rfl) (Nat.le_of_ble_eq_true rfl) (Nat.le_of_ble_eq_true rfl) (Nat.le_of_ble_eq_true rfl) (fun h1 q1 => ?_)
    subst q1
    refine X_return (pc := 26) dX6_half_26 rfl (Nat.le_of_ble_eq_true rfl) (Nat.le_of_ble_eq_true rfl) ?_
    refine ⟨rfl, _, ?_, rfl⟩
    have := hvF_V h0 fa 0
    have e0 : u32 (0 : Int32) % 2 = 0 := rfl
    rw [e0, hev] at this
    unfold hvN
    rw [if_pos hev]
    omega
  · skip
    have hod : V n fa % 2 = 1 := by
      rcases Nat.mod_two_eq_zero_or_one (V n fa) with e | e
      · rw [e] at c_8; exact absurd c_8 (by decide)
      · exact e
    refine X_aload_n (pc := 11) 2 dX6_half_11 rfl rfl ?_
    refine X_aload_n (pc := 12) 1 dX6_half_12 rfl rfl ?_
    refine X_getfield (pc := 13) dX6_half_13 fg_X6_13_4 (by assumption) (by first | rfl | assumption) ?_
    refine X_aload_n (pc := 16) 2 dX6_half_16 rfl rfl ?_
    refine X_isi (pc := 17) _ dX6_half_17 cs_X6_70 rfl (plus_ok g ha hm ha (Nat.le_refl n) (Nat.le_refl n) ⟨hl, hl⟩) nX6_plus (Nat.le_of_ble_eq_true rfl) (Nat.le_of_ble_eq_true rfl) (Nat.le_of_ble_eq_true rfl) (Nat.le_of_ble_eq_true rfl) (fun r1 h1 q1 => ?_)
    obtain ⟨f, hr, -, hv, rfl⟩ := q1
    have hp2 : ((2 ^ (32 * n) : Nat) : Int) = (2 : Int) ^ (32 * n) := by push_cast; rfl
    rw [← hp2] at hv
    refine X_istore_n (pc := 20) (L' := [(2, .int _), (0, .ref _), (1, .ref _)]) dX6_half_20 rfl (Nat.le_of_ble_eq_true rfl) rfl ?_
    refine X_aload_n (pc := 21) 2 dX6_half_21 rfl rfl ?_
    refine X_iload_n (pc := 22) 0 dX6_half_22 rfl rfl ?_
    refine X_isv (pc := 23) _ dX6_half_23 cs_X6_85 rfl (xshift_ok g (hset_self _ _ _) hl) nX6_shift (Nat.le_of_ble_eq_true rfl) (Nat.le_of_ble_eq_true rfl) (Nat.le_of_ble_eq_true rfl) (Nat.le_of_ble_eq_true rfl) (fun h2 q2 => ?_)
    subst q2
    refine XX.eqh (hset_hset _ _ _ _) ?_
    refine X_return (pc := 26) dX6_half_26 rfl (Nat.le_of_ble_eq_true rfl) (Nat.le_of_ble_eq_true rfl) ?_
    refine ⟨rfl, _, ?_, rfl⟩
    have := hvF_V h0 f r1
    unfold hvN
    rw [if_neg (by omega)]
    have z0 : (0 : Int32).toInt = 0 := rfl
    have z1 : (1 : Int32).toInt = 1 := rfl
    rcases hr with rfl | rfl
    · rw [z0] at hv
      rw [show u32 (0 : Int32) % 2 = 0 from rfl] at this
      omega
    · rw [z1] at hv
      rw [show u32 (1 : Int32) % 2 = 1 from rfl] at this
      omega
theorem xbelow_ok (g : GX) {h : AH} {M am a n : Nat} {fs : List Value} {ra : Bool} {fm fa : Nat → Int32} (hM : h M = some (Ob 4 fs)) (h1 : fs[1]? = some (.ref am)) (hm : h am = some (Ai false 0 n fm)) (ha : h a = some (Ai ra 0 n fa)) (hl : n < 2 ^ 31) :
    MT g MX6_isBelow ({ frames := 3, cells := 0, slots := 0, locals := 64 } : Room) [.ref M, .ref a] h (RI fun r h' => r = (if V n fa < V n fm then 1 else 0) ∧ h' = h) := by
  refine MT.of (by decide) (Nat.le_of_ble_eq_true rfl) ?_
  refine X_aload_n (pc := 0) 1 dX6_isBelow_0 rfl rfl ?_
  refine X_aload_n (pc := 1) 0 dX6_isBelow_1 rfl rfl ?_
  refine X_getfield (pc := 2) dX6_isBelow_2 fg_X6_13_4 (by assumption) (by first | rfl | assumption) ?_
  refine X_isi (pc := 5) _ dX6_isBelow_5 cs_X6_64 rfl (compare_ok g ha hm (Nat.le_refl n) hl) nX6_compare (Nat.le_of_ble_eq_true rfl) (Nat.le_of_ble_eq_true rfl) (Nat.le_of_ble_eq_true rfl) (Nat.le_of_ble_eq_true rfl) (fun r h1 q => ?_)
  obtain ⟨er, rfl⟩ := q
  refine X_if_ge (pc := 8) 15 dX6_isBelow_8 (by decide) (fun c_8 => ?_) (fun c_8 => ?_)
  · refine X_iconst (pc := 15) (x := 0) dX6_isBelow_15 (by decide) ?_
    refine X_zreturn (pc := 16) dX6_isBelow_16 rfl (by first | exact Or.inl rfl | exact Or.inr rfl | assumption | exact zo_if) (Nat.le_of_ble_eq_true rfl) (Nat.le_of_ble_eq_true rfl) ?_
    refine ⟨_, rfl, ?_, rfl⟩
    rw [er] at c_8
    unfold cmpN at c_8
    by_cases c : V n fa < V n fm
    · rw [if_pos c] at c_8
      exact absurd c_8 (by decide)
    · rw [if_neg c]
  · refine X_iconst (pc := 11) (x := 1) dX6_isBelow_11 (by decide) ?_
    refine X_goto (pc := 12) 16 dX6_isBelow_12 (by decide) ?_
    refine X_zreturn (pc := 16) dX6_isBelow_16 rfl (by first | exact Or.inl rfl | exact Or.inr rfl | assumption | exact zo_if) (Nat.le_of_ble_eq_true rfl) (Nat.le_of_ble_eq_true rfl) ?_
    refine ⟨_, rfl, ?_, rfl⟩
    rw [er] at c_8
    unfold cmpN at c_8
    by_cases c : V n fa < V n fm
    · rw [if_pos c]
    · rw [if_neg c] at c_8
      split at c_8
      · exact absurd (show (0 : Int32) ≤ 0 by decide) c_8
      · exact absurd (show (0 : Int32) ≤ 1 by decide) c_8
/-- four arrays apart -/
def W4x (N : Nat) (h : AH) (al ar ao ai : Nat) (L R O T : Nat → Int32) (h' : AH) : Prop := h' al = some (Ai false 0 N L) ∧ h' ar = some (Ai false 0 N R) ∧ h' ao = some (Ai false 0 N O) ∧ h' ai = some (Ai false 0 N T) ∧ ∀ x, x ≠ al → x ≠ ar → x ≠ ao → x ≠ ai → h' x = h x
theorem W4x.sl {N : Nat} {h h' : AH} {al ar ao ai : Nat} {L R O T : Nat → Int32} (d : D4 al ar ao ai) (w : W4x N h al ar ao ai L R O T h') (f : Nat → Int32) : W4x N h al ar ao ai f R O T (hset h' al (Ai false 0 N f)) := by
  obtain ⟨d1, d2, d3, d4, d5, d6⟩ := d
  exact ⟨hset_self _ _ _, by rw [hset_ne d1.symm]; exact w.2.1, by rw [hset_ne d2.symm]; exact w.2.2.1, by rw [hset_ne d3.symm]; exact w.2.2.2.1, fun x a b c e => by rw [hset_ne a]; exact w.2.2.2.2 x a b c e⟩
theorem W4x.sr {N : Nat} {h h' : AH} {al ar ao ai : Nat} {L R O T : Nat → Int32} (d : D4 al ar ao ai) (w : W4x N h al ar ao ai L R O T h') (f : Nat → Int32) : W4x N h al ar ao ai L f O T (hset h' ar (Ai false 0 N f)) := by
  obtain ⟨d1, d2, d3, d4, d5, d6⟩ := d
  exact ⟨by rw [hset_ne d1]; exact w.1, hset_self _ _ _, by rw [hset_ne d4.symm]; exact w.2.2.1, by rw [hset_ne d5.symm]; exact w.2.2.2.1, fun x a b c e => by rw [hset_ne b]; exact w.2.2.2.2 x a b c e⟩
theorem W4x.so {N : Nat} {h h' : AH} {al ar ao ai : Nat} {L R O T : Nat → Int32} (d : D4 al ar ao ai) (w : W4x N h al ar ao ai L R O T h') (f : Nat → Int32) : W4x N h al ar ao ai L R f T (hset h' ao (Ai false 0 N f)) := by
  obtain ⟨d1, d2, d3, d4, d5, d6⟩ := d
  exact ⟨by rw [hset_ne d2]; exact w.1, by rw [hset_ne d4]; exact w.2.1, hset_self _ _ _, by rw [hset_ne d6.symm]; exact w.2.2.2.1, fun x a b c e => by rw [hset_ne c]; exact w.2.2.2.2 x a b c e⟩
theorem W4x.st {N : Nat} {h h' : AH} {al ar ao ai : Nat} {L R O T : Nat → Int32} (d : D4 al ar ao ai) (w : W4x N h al ar ao ai L R O T h') (f : Nat → Int32) : W4x N h al ar ao ai L R O f (hset h' ai (Ai false 0 N f)) := by
  obtain ⟨d1, d2, d3, d4, d5, d6⟩ := d
  exact ⟨by rw [hset_ne d3]; exact w.1, by rw [hset_ne d5]; exact w.2.1, by rw [hset_ne d6]; exact w.2.2.1, hset_self _ _ _, fun x a b c e => by rw [hset_ne e]; exact w.2.2.2.2 x a b c e⟩
theorem W4x.eq {N : Nat} {h h' : AH} {al ar ao ai : Nat} {L R O T : Nat → Int32} (d : D4 al ar ao ai) (w : W4x N h al ar ao ai L R O T h') : h' = hset (hset (hset (hset h al (Ai false 0 N L)) ar (Ai false 0 N R)) ao (Ai false 0 N O)) ai (Ai false 0 N T) := by
  obtain ⟨d1, d2, d3, d4, d5, d6⟩ := d
  funext x
  by_cases e1 : x = ai
  · subst e1; rw [hset_self]; exact w.2.2.2.1
  · rw [hset_ne e1]
    by_cases e2 : x = ao
    · subst e2; rw [hset_self]; exact w.2.2.1
    · rw [hset_ne e2]
      by_cases e3 : x = ar
      · subst e3; rw [hset_self]; exact w.2.1
      · rw [hset_ne e3]
        by_cases e4 : x = al
        · subst e4; rw [hset_self]; exact w.1
        · rw [hset_ne e4]; exact w.2.2.2.2 x e4 e3 e2 e1
theorem IvI.gcd {m a l r o t : Nat} (h : IvI m a l r o t) (hl : l = 0) : r = Nat.gcd a m := by
  rw [← h.2.2.2.2.2, hl, Nat.gcd_zero_left]
theorem hvF_half {n : Nat} (h0 : 0 < n) {f : Nat → Int32} (he : V n f % 2 = 0) : V n (hvF n n f 0) = V n f / 2 := by
  have := hvF_V h0 f 0
  rw [show u32 (0 : Int32) % 2 = 0 from rfl, he] at this
  omega
set_option maxHeartbeats 16000000 in
theorem xinv_ok (g : GX) {h : AH} {M a to n au av ax ay am ao : Nat} {fs : List Value} {ra : Bool} {fm fo1 fa fo U0 W0 X0 Y0 : Nat → Int32} (hM : h M = some (Ob 4 fs)) (g0 : fs[0]? = some (.int (nI n))) (g1 : fs[1]? = some (.ref am)) (g4 : fs[4]? = some (.ref ao)) (g6 : fs[6]? = some (.ref au)) (g7 : fs[7]? = some (.ref av)) (g8 : fs[8]? = some (.ref ax)) (g9 : fs[9]? = some (.ref ay))
    (hm : h am = some (Ai false 0 n fm)) (h1u : h ao = some (Ai false 0 n fo1)) (ha : h a = some (Ai false 0 n fa)) (ho : h to = some (Ai false 0 n fo)) (d : D4 au av ax ay) (w0 : W4x n h au av ax ay U0 W0 X0 Y0 h)
    (ea : a ≠ au ∧ a ≠ av ∧ a ≠ ax ∧ a ≠ ay) (eo : to ≠ au ∧ to ≠ av ∧ to ≠ ax ∧ to ≠ ay) (em : am ≠ au ∧ am ≠ av ∧ am ≠ ax ∧ am ≠ ay) (e1 : ao ≠ au ∧ ao ≠ av ∧ ao ≠ ax ∧ ao ≠ ay) (eto : ao ≠ to) (h0 : 0 < n) (hl : n < 2 ^ 31) (hodd : V n fm % 2 = 1) (h1 : 1 < V n fm) (hu : V n fo1 = 1) :
    MT g MX6_inverse ({ frames := 3, cells := 0, slots := 0, locals := 69 } : Room) [.ref M, .ref a, .ref to] h (RI fun r h' => ∃ (U W X Y f : Nat → Int32), r = (if Nat.gcd (V n fa) (V n fm) = 1 then 1 else 0) ∧ (Nat.gcd (V n fa) (V n fm) = 1 → V n f = invM (V n fm) (V n fa) ∧ V n f < V n fm) ∧ h' = hset (hset (hset (hset (hset h au (Ai false 0 n U)) av (Ai false 0 n W)) ax (Ai false 0 n X)) ay (Ai false 0 n Y)) to (Ai false 0 n f)) := by
  refine MT.of (by decide) (Nat.le_of_ble_eq_true rfl) ?_
  generalize hvm : V n fm = mv at *
  generalize hva : V n fa = va at *
  generalize hQ : (RI fun r h' => ∃ (U W X Y f : Nat → Int32), r = (if Nat.gcd va mv = 1 then 1 else 0) ∧ (Nat.gcd va mv = 1 → V n f = invM mv va ∧ V n f < mv) ∧ h' = hset (hset (hset (hset (hset h au (Ai false 0 n U)) av (Ai false 0 n W)) ax (Ai false 0 n X)) ay (Ai false 0 n Y)) to (Ai false 0 n f)) = Q
  have Z : vp_in (0 : Int32) n := vp_in_nI (n := 0) (by omega) (by omega)
  have c0 : (0 : Int32).toNatClampNeg = 0 := rfl
  have out0 : ∀ {U W X Y : Nat → Int32} {h' : AH}, W4x n h au av ax ay U W X Y h' → h' M = some (Ob 4 fs) ∧ h' am = some (Ai false 0 n fm) ∧ h' ao = some (Ai false 0 n fo1) ∧ h' a = some (Ai false 0 n fa) ∧ h' to = some (Ai false 0 n fo) := by
    intro U W X Y h' w
    refine ⟨?_, ?_, ?_, ?_, ?_⟩
    · rw [w.2.2.2.2 M (ne_of hM w0.1 (fun e => by cases e)) (ne_of hM w0.2.1 (fun e => by cases e)) (ne_of hM w0.2.2.1 (fun e => by cases e)) (ne_of hM w0.2.2.2.1 (fun e => by cases e))]; exact hM
    · rw [w.2.2.2.2 am em.1 em.2.1 em.2.2.1 em.2.2.2]; exact hm
    · rw [w.2.2.2.2 ao e1.1 e1.2.1 e1.2.2.1 e1.2.2.2]; exact h1u
    · rw [w.2.2.2.2 a ea.1 ea.2.1 ea.2.2.1 ea.2.2.2]; exact ha
    · rw [w.2.2.2.2 to eo.1 eo.2.1 eo.2.2.1 eo.2.2.2]; exact ho
  -- the end
  have fin : ∀ (U W X Y : Nat → Int32) (h' : AH) (s : Int32), W4x n h au av ax ay U W X Y h' → V n U = 0 → IvI mv va (V n U) (V n W) (V n X) (V n Y) → XX g MX6_inverse ({ frames := 3, cells := 0, slots := 0, locals := 69 } : Room) Q 0 0 218 [(3, .int s), (0, .ref M), (1, .ref a), (2, .ref to)] [] h' := by
    intro U W X Y h' s w hU hI
    obtain ⟨o1, o2, o3, o4, o5⟩ := out0 w
    have hgr : V n W = Nat.gcd va mv := hI.gcd hU
    refine X_aload_n (pc := 218) 1 dX6_inverse_218 rfl rfl ?_
    refine X_getfield (pc := 219) dX6_inverse_219 fg_X6_38_4 o1 g9 ?_
    refine X_aload_n (pc := 222) 3 dX6_inverse_222 rfl rfl ?_
    refine X_isv (pc := 223) _ dX6_inverse_223 cs_X6_44 rfl (copy_ok g w.2.2.2.1 o5 (Nat.le_refl n) hl) nX6_copy (Nat.le_of_ble_eq_true rfl) (Nat.le_of_ble_eq_true rfl) (Nat.le_of_ble_eq_true rfl) (Nat.le_of_ble_eq_true rfl) (fun h1 q1 => ?_)
    subst q1
    have hw2 : hset h' to (Ai false 0 n (va_cpy Y fo 0 0 n)) av = some (Ai false 0 n W) := by rw [hset_ne (fun z => eo.2.1 z.symm)]; exact w.2.1
    have hw3 : hset h' to (Ai false 0 n (va_cpy Y fo 0 0 n)) ao = some (Ai false 0 n fo1) := by rw [hset_ne eto]; exact o3
    have hw4 : hset h' to (Ai false 0 n (va_cpy Y fo 0 0 n)) M = some (Ob 4 fs) := by rw [hset_ne (ne_of o1 o5 (fun e => by cases e))]; exact o1
    refine X_aload_n (pc := 226) 1 dX6_inverse_226 rfl rfl ?_
    refine X_getfield (pc := 227) dX6_inverse_227 fg_X6_32_4 hw4 g7 ?_
    refine X_aload_n (pc := 230) 1 dX6_inverse_230 rfl rfl ?_
    refine X_getfield (pc := 231) dX6_inverse_231 fg_X6_23_4 hw4 g4 ?_
    refine X_isi (pc := 234) _ dX6_inverse_234 cs_X6_64 rfl (compare_ok g hw2 hw3 (Nat.le_refl n) hl) nX6_compare (Nat.le_of_ble_eq_true rfl) (Nat.le_of_ble_eq_true rfl) (Nat.le_of_ble_eq_true rfl) (Nat.le_of_ble_eq_true rfl) (fun r2 h2 q2 => ?_)
    obtain ⟨er, rfl⟩ := q2
    rw [hu, hgr] at er
    have endI : Nat.gcd va mv = 1 → V n (va_cpy Y fo 0 0 n) = invM mv va ∧ V n (va_cpy Y fo 0 0 n) < mv := by
      intro hg
      rw [V_cpy]
      refine ⟨?_, hI.2.2.2.1⟩
      symm
      refine invM_eq hI.2.2.2.1 ?_
      rw [hI.2.1, hgr, hg]
    subst hQ
    refine X_if_ne (pc := 237) 244 dX6_inverse_237 (by decide) (fun c_237 => ?_) (fun c_237 => ?_)
    · refine X_iconst (pc := 244) (x := 0) dX6_inverse_244 (by decide) ?_
      refine X_zreturn (pc := 245) dX6_inverse_245 rfl (by first | exact Or.inl rfl | exact Or.inr rfl | assumption | exact zo_if) (Nat.le_of_ble_eq_true rfl) (Nat.le_of_ble_eq_true rfl) ?_
      refine ⟨_, rfl, U, W, X, Y, _, ?_, endI, by rw [w.eq d]⟩
      rw [if_neg]
      intro hg
      rw [er, hg] at c_237
      exact c_237 rfl
    · refine X_iconst (pc := 240) (x := 1) dX6_inverse_240 (by decide) ?_
      refine X_goto (pc := 241) 245 dX6_inverse_241 (by decide) ?_
      refine X_zreturn (pc := 245) dX6_inverse_245 rfl (by first | exact Or.inl rfl | exact Or.inr rfl | assumption | exact zo_if) (Nat.le_of_ble_eq_true rfl) (Nat.le_of_ble_eq_true rfl) ?_
      refine ⟨_, rfl, U, W, X, Y, _, ?_, endI, by rw [w.eq d]⟩
      rw [if_pos]
      rw [er] at c_237
      unfold cmpN at c_237
      split at c_237
      · exact absurd c_237 (by decide)
      · split at c_237
        · assumption
        · exact absurd c_237 (by decide)
  -- the loop
  have loop : ∀ (B : Nat) (U W X Y : Nat → Int32) (h' : AH) (s : Int32), 2 * (V n U + V n W) ≤ B → W4x n h au av ax ay U W X Y h' → 0 < V n W → (IvI mv va (V n U) (V n W) (V n X) (V n Y) ∨ (0 < V n U ∧ IvI mv va (V n W) (V n U) (V n Y) (V n X))) →
      XX g MX6_inverse ({ frames := 3, cells := 0, slots := 0, locals := 69 } : Room) Q 0 0 64 [(3, .int s), (0, .ref M), (1, .ref a), (2, .ref to)] [] h' := by
    intro B
    induction B using Nat.strongRecOn with
    | _ B ihB =>
    -- both are odd
    have third : ∀ (U W X Y : Nat → Int32) (h' : AH) (s : Int32), 2 * (V n U + V n W) ≤ B + 1 → W4x n h au av ax ay U W X Y h' → 0 < V n W → V n W % 2 = 1 → 0 < V n U → IvI mv va (V n W) (V n U) (V n Y) (V n X) →
        XX g MX6_inverse ({ frames := 3, cells := 0, slots := 0, locals := 69 } : Room) Q 0 0 134 [(3, .int s), (0, .ref M), (1, .ref a), (2, .ref to)] [] h' := by
      intro U W X Y h' s hB w hW hWo hU hI
      obtain ⟨o1, o2, o3, o4, o5⟩ := out0 w
      have hp : ((2 ^ (32 * n) : Nat) : Int) = (2 : Int) ^ (32 * n) := by push_cast; rfl
      have l1 := V_lt n U
      have l2 := V_lt n W
      have z0 : (0 : Int32).toInt = 0 := rfl
      have z2 : (-1 : Int32).toInt = -1 := rfl
      refine X_aload_n (pc := 134) 1 dX6_inverse_134 rfl rfl ?_
      refine X_getfield (pc := 135) dX6_inverse_135 fg_X6_29_4 o1 g6 ?_
      refine X_aload_n (pc := 138) 1 dX6_inverse_138 rfl rfl ?_
      refine X_getfield (pc := 139) dX6_inverse_139 fg_X6_32_4 o1 g7 ?_
      refine X_isi (pc := 142) _ dX6_inverse_142 cs_X6_64 rfl (compare_ok g w.1 w.2.1 (Nat.le_refl n) hl) nX6_compare (Nat.le_of_ble_eq_true rfl) (Nat.le_of_ble_eq_true rfl) (Nat.le_of_ble_eq_true rfl) (Nat.le_of_ble_eq_true rfl) (fun r1 h1 q1 => ?_)
      obtain ⟨er, rfl⟩ := q1
      refine X_if_lt (pc := 145) 183 dX6_inverse_145 (by decide) (fun c_145 => ?_) (fun c_145 => ?_)
      · have hlt : V n U < V n W := by
          rw [er] at c_145
          unfold cmpN at c_145
          split at c_145
          · assumption
          · split at c_145
            · exact absurd c_145 (by decide)
            · exact absurd c_145 (by decide)
        refine X_aload_n (pc := 183) 1 dX6_inverse_183 rfl rfl ?_
        refine X_getfield (pc := 184) dX6_inverse_184 fg_X6_32_4 o1 g7 ?_
        refine X_aload_n (pc := 187) 1 dX6_inverse_187 rfl rfl ?_
        refine X_getfield (pc := 188) dX6_inverse_188 fg_X6_29_4 o1 g6 ?_
        refine X_aload_n (pc := 191) 1 dX6_inverse_191 rfl rfl ?_
        refine X_getfield (pc := 192) dX6_inverse_192 fg_X6_32_4 o1 g7 ?_
        refine X_isi (pc := 195) _ dX6_inverse_195 cs_X6_74 rfl (minus_ok g w.2.1 w.1 w.2.1 (Nat.le_refl n) (Nat.le_refl n) ⟨hl, hl⟩) nX6_minus (Nat.le_of_ble_eq_true rfl) (Nat.le_of_ble_eq_true rfl) (Nat.le_of_ble_eq_true rfl) (Nat.le_of_ble_eq_true rfl) (fun r2 h2 q2 => ?_)
        obtain ⟨f, hr, -, hv, rfl⟩ := q2
        rw [← hp] at hv
        have lf := V_lt n f
        have hfv : V n f = V n W - V n U := by
          rcases hr with rfl | rfl
          · rw [z0] at hv; omega
          · rw [z2] at hv; omega
        have w2 := w.sr d f
        obtain ⟨p1, p2, p3, p4, p5⟩ := out0 w2
        refine X_istore_n (pc := 198) (L' := [(3, .int _), (0, .ref _), (1, .ref _), (2, .ref _)]) dX6_inverse_198 rfl (Nat.le_of_ble_eq_true rfl) rfl ?_
        refine X_aload_n (pc := 199) 1 dX6_inverse_199 rfl rfl ?_
        refine X_aload_n (pc := 200) 1 dX6_inverse_200 rfl rfl ?_
        refine X_getfield (pc := 201) dX6_inverse_201 fg_X6_38_4 p1 g9 ?_
        refine X_aload_n (pc := 204) 1 dX6_inverse_204 rfl rfl ?_
        refine X_getfield (pc := 205) dX6_inverse_205 fg_X6_35_4 p1 g8 ?_
        refine X_aload_n (pc := 208) 1 dX6_inverse_208 rfl rfl ?_
        refine X_getfield (pc := 209) dX6_inverse_209 fg_X6_38_4 p1 g9 ?_
        refine X_ivv (pc := 212) _ dX6_inverse_212 cv_X6_97_4 p1 rfl (xsub_ok g p1 g1 p2 w2.2.2.2.1 w2.2.2.1 w2.2.2.2.1 em.2.2.2 (by rw [hvm]; exact hI.2.2.1) (by rw [hvm]; exact hI.2.2.2.1) hl) nX6_sub (Nat.le_of_ble_eq_true rfl) (Nat.le_of_ble_eq_true rfl) (Nat.le_of_ble_eq_true rfl) (Nat.le_of_ble_eq_true rfl) (fun h3 q3 => ?_)
        obtain ⟨f2, hv2, rfl⟩ := q3
        have w3 := w2.st d f2
        refine X_goto (pc := 215) 64 dX6_inverse_215 (by decide) ?_
        refine ihB (2 * (V n U + V n f)) (by omega) _ _ _ _ _ _ (Nat.le_refl _) w3 (by omega) (Or.inr ⟨hU, ?_⟩)
        rw [hfv, hv2, hvm]
        exact hI.sub (by omega)
      · skip
        have hge : V n W ≤ V n U := by
          rw [er] at c_145
          unfold cmpN at c_145
          split at c_145
          · exact absurd (show (-1 : Int32) < 0 by decide) c_145
          · omega
        refine X_aload_n (pc := 148) 1 dX6_inverse_148 rfl rfl ?_
        refine X_getfield (pc := 149) dX6_inverse_149 fg_X6_29_4 o1 g6 ?_
        refine X_aload_n (pc := 152) 1 dX6_inverse_152 rfl rfl ?_
        refine X_getfield (pc := 153) dX6_inverse_153 fg_X6_32_4 o1 g7 ?_
        refine X_aload_n (pc := 156) 1 dX6_inverse_156 rfl rfl ?_
        refine X_getfield (pc := 157) dX6_inverse_157 fg_X6_29_4 o1 g6 ?_
        refine X_isi (pc := 160) _ dX6_inverse_160 cs_X6_74 rfl (minus_ok g w.1 w.2.1 w.1 (Nat.le_refl n) (Nat.le_refl n) ⟨hl, hl⟩) nX6_minus (Nat.le_of_ble_eq_true rfl) (Nat.le_of_ble_eq_true rfl) (Nat.le_of_ble_eq_true rfl) (Nat.le_of_ble_eq_true rfl) (fun r2 h2 q2 => ?_)
        obtain ⟨f, hr, -, hv, rfl⟩ := q2
        rw [← hp] at hv
        have lf := V_lt n f
        have hfv : V n f = V n U - V n W := by
          rcases hr with rfl | rfl
          · rw [z0] at hv; omega
          · rw [z2] at hv; omega
        have w2 := w.sl d f
        obtain ⟨p1, p2, p3, p4, p5⟩ := out0 w2
        refine X_istore_n (pc := 163) (L' := [(3, .int _), (0, .ref _), (1, .ref _), (2, .ref _)]) dX6_inverse_163 rfl (Nat.le_of_ble_eq_true rfl) rfl ?_
        refine X_aload_n (pc := 164) 1 dX6_inverse_164 rfl rfl ?_
        refine X_aload_n (pc := 165) 1 dX6_inverse_165 rfl rfl ?_
        refine X_getfield (pc := 166) dX6_inverse_166 fg_X6_35_4 p1 g8 ?_
        refine X_aload_n (pc := 169) 1 dX6_inverse_169 rfl rfl ?_
        refine X_getfield (pc := 170) dX6_inverse_170 fg_X6_38_4 p1 g9 ?_
        refine X_aload_n (pc := 173) 1 dX6_inverse_173 rfl rfl ?_
        refine X_getfield (pc := 174) dX6_inverse_174 fg_X6_35_4 p1 g8 ?_
        refine X_ivv (pc := 177) _ dX6_inverse_177 cv_X6_97_4 p1 rfl (xsub_ok g p1 g1 p2 w2.2.2.1 w2.2.2.2.1 w2.2.2.1 em.2.2.1 (by rw [hvm]; exact hI.2.2.2.1) (by rw [hvm]; exact hI.2.2.1) hl) nX6_sub (Nat.le_of_ble_eq_true rfl) (Nat.le_of_ble_eq_true rfl) (Nat.le_of_ble_eq_true rfl) (Nat.le_of_ble_eq_true rfl) (fun h3 q3 => ?_)
        obtain ⟨f2, hv2, rfl⟩ := q3
        have w3 := w2.so d f2
        refine X_goto (pc := 180) 64 dX6_inverse_180 (by decide) ?_
        refine ihB (2 * (V n f + V n W)) (by omega) _ _ _ _ _ _ (Nat.le_refl _) w3 hW (Or.inl ?_)
        rw [hfv, hv2, hvm]
        exact (hI.swap hWo).sub hge
    -- u is odd
    have second : ∀ (C : Nat) (U W X Y : Nat → Int32) (h' : AH) (s : Int32), V n W ≤ C → 2 * (V n U + V n W) ≤ B + 1 → W4x n h au av ax ay U W X Y h' → 0 < V n W → 0 < V n U → IvI mv va (V n W) (V n U) (V n Y) (V n X) →
        XX g MX6_inverse ({ frames := 3, cells := 0, slots := 0, locals := 69 } : Room) Q 0 0 104 [(3, .int s), (0, .ref M), (1, .ref a), (2, .ref to)] [] h' := by
      intro C
      induction C with
      | zero => intro U W X Y h' s hC hB w hW; omega
      | succ C ihC =>
        intro U W X Y h' s hC hB w hW hU hI
        obtain ⟨o1, o2, o3, o4, o5⟩ := out0 w
        have hp := V_par h0 W
        refine X_aload_n (pc := 104) 1 dX6_inverse_104 rfl rfl ?_
        refine X_getfield (pc := 105) dX6_inverse_105 fg_X6_32_4 o1 g7 ?_
        refine X_iconst (pc := 108) (x := 0) dX6_inverse_108 (by decide) ?_
        refine X_iaload (pc := 109) dX6_inverse_109 w.2.1 Z ?_
        rw [c0]
        refine X_iconst (pc := 110) (x := 1) dX6_inverse_110 (by decide) ?_
        refine X_iand (pc := 111) dX6_inverse_111 ?_
        rw [and1_u32, ← hp]
        refine X_if_ne (pc := 112) 134 dX6_inverse_112 (by decide) (fun c_112 => ?_) (fun c_112 => ?_)
        · have hod : V n W % 2 = 1 := by
            rcases Nat.mod_two_eq_zero_or_one (V n W) with e | e
            · rw [e] at c_112; exact absurd rfl c_112
            · exact e
          exact third U W X Y h' s hB w hW hod hU hI
        · skip
          have hev : V n W % 2 = 0 := by
            rcases Nat.mod_two_eq_zero_or_one (V n W) with e | e
            · exact e
            · rw [e] at c_112; exact absurd c_112 (by decide)
          refine X_aload_n (pc := 115) 1 dX6_inverse_115 rfl rfl ?_
          refine X_getfield (pc := 116) dX6_inverse_116 fg_X6_32_4 o1 g7 ?_
          refine X_iconst (pc := 119) (x := 0) dX6_inverse_119 (by decide) ?_
          refine X_isv (pc := 120) _ dX6_inverse_120 cs_X6_85 rfl (xshift_ok g w.2.1 hl) nX6_shift (Nat.le_of_ble_eq_true rfl) (Nat.le_of_ble_eq_true rfl) (Nat.le_of_ble_eq_true rfl) (Nat.le_of_ble_eq_true rfl) (fun h3 q3 => ?_)
          have w3 := w.sr d (hvF n n W 0)
          subst q3
          obtain ⟨p1, p2, p3, p4, p5⟩ := out0 w3
          have hfv := hvF_half h0 hev
          refine X_aload_n (pc := 123) 1 dX6_inverse_123 rfl rfl ?_
          refine X_aload_n (pc := 124) 1 dX6_inverse_124 rfl rfl ?_
          refine X_getfield (pc := 125) dX6_inverse_125 fg_X6_38_4 p1 g9 ?_
          refine X_ivv (pc := 128) _ dX6_inverse_128 cv_X6_93_4 p1 rfl (xhalf_ok g p1 g1 p2 w3.2.2.2.1 em.2.2.2 h0 hl (by rw [hvm]; exact hodd)) nX6_half (Nat.le_of_ble_eq_true rfl) (Nat.le_of_ble_eq_true rfl) (Nat.le_of_ble_eq_true rfl) (Nat.le_of_ble_eq_true rfl) (fun h4 q4 => ?_)
          obtain ⟨f2, hv2, rfl⟩ := q4
          have w4 := w3.st d f2
          refine X_goto (pc := 131) 104 dX6_inverse_131 (by decide) ?_
          refine ihC _ _ _ _ _ _ (by omega) (by omega) w4 (by omega) hU ?_
          rw [hfv, hv2, hvm]
          exact hI.half hodd hev
    -- u is not 0
    have first : ∀ (C : Nat) (U W X Y : Nat → Int32) (h' : AH) (s : Int32), V n U ≤ C → 2 * (V n U + V n W) ≤ B + 1 → W4x n h au av ax ay U W X Y h' → 0 < V n W → 0 < V n U → (IvI mv va (V n U) (V n W) (V n X) (V n Y) ∨ (0 < V n U ∧ IvI mv va (V n W) (V n U) (V n Y) (V n X))) →
        XX g MX6_inverse ({ frames := 3, cells := 0, slots := 0, locals := 69 } : Room) Q 0 0 74 [(3, .int s), (0, .ref M), (1, .ref a), (2, .ref to)] [] h' := by
      intro C
      induction C with
      | zero => intro U W X Y h' s hC hB w hW hU; omega
      | succ C ihC =>
        intro U W X Y h' s hC hB w hW hU hI
        obtain ⟨o1, o2, o3, o4, o5⟩ := out0 w
        have hp := V_par h0 U
        refine X_aload_n (pc := 74) 1 dX6_inverse_74 rfl rfl ?_
        refine X_getfield (pc := 75) dX6_inverse_75 fg_X6_29_4 o1 g6 ?_
        refine X_iconst (pc := 78) (x := 0) dX6_inverse_78 (by decide) ?_
        refine X_iaload (pc := 79) dX6_inverse_79 w.1 Z ?_
        rw [c0]
        refine X_iconst (pc := 80) (x := 1) dX6_inverse_80 (by decide) ?_
        refine X_iand (pc := 81) dX6_inverse_81 ?_
        rw [and1_u32, ← hp]
        refine X_if_ne (pc := 82) 104 dX6_inverse_82 (by decide) (fun c_82 => ?_) (fun c_82 => ?_)
        · have hod : V n U % 2 = 1 := by
            rcases Nat.mod_two_eq_zero_or_one (V n U) with e | e
            · rw [e] at c_82; exact absurd rfl c_82
            · exact e
          refine second (V n W) U W X Y h' s (Nat.le_refl _) hB w hW hU ?_
          rcases hI with hI | hI
          · exact hI.swap hod
          · exact hI.2
        · skip
          have hev : V n U % 2 = 0 := by
            rcases Nat.mod_two_eq_zero_or_one (V n U) with e | e
            · exact e
            · rw [e] at c_82; exact absurd c_82 (by decide)
          have hI1 : IvI mv va (V n U) (V n W) (V n X) (V n Y) := by
            rcases hI with hI | hI
            · exact hI
            · have := hI.2.2.2.2.2.1
              omega
          refine X_aload_n (pc := 85) 1 dX6_inverse_85 rfl rfl ?_
          refine X_getfield (pc := 86) dX6_inverse_86 fg_X6_29_4 o1 g6 ?_
          refine X_iconst (pc := 89) (x := 0) dX6_inverse_89 (by decide) ?_
          refine X_isv (pc := 90) _ dX6_inverse_90 cs_X6_85 rfl (xshift_ok g w.1 hl) nX6_shift (Nat.le_of_ble_eq_true rfl) (Nat.le_of_ble_eq_true rfl) (Nat.le_of_ble_eq_true rfl) (Nat.le_of_ble_eq_true rfl) (fun h3 q3 => ?_)
          have w3 := w.sl d (hvF n n U 0)
          subst q3
          obtain ⟨p1, p2, p3, p4, p5⟩ := out0 w3
          have hfv := hvF_half h0 hev
          refine X_aload_n (pc := 93) 1 dX6_inverse_93 rfl rfl ?_
          refine X_aload_n (pc := 94) 1 dX6_inverse_94 rfl rfl ?_
          refine X_getfield (pc := 95) dX6_inverse_95 fg_X6_35_4 p1 g8 ?_
          refine X_ivv (pc := 98) _ dX6_inverse_98 cv_X6_93_4 p1 rfl (xhalf_ok g p1 g1 p2 w3.2.2.1 em.2.2.1 h0 hl (by rw [hvm]; exact hodd)) nX6_half (Nat.le_of_ble_eq_true rfl) (Nat.le_of_ble_eq_true rfl) (Nat.le_of_ble_eq_true rfl) (Nat.le_of_ble_eq_true rfl) (fun h4 q4 => ?_)
          obtain ⟨f2, hv2, rfl⟩ := q4
          have w4 := w3.so d f2
          refine X_goto (pc := 101) 74 dX6_inverse_101 (by decide) ?_
          refine ihC _ _ _ _ _ _ (by omega) (by omega) w4 hW (by omega) (Or.inl ?_)
          rw [hfv, hv2, hvm]
          exact hI1.half hodd hev
    intro U W X Y h' s hB w hW hI
    obtain ⟨o1, o2, o3, o4, o5⟩ := out0 w
    refine X_aload_n (pc := 64) 1 dX6_inverse_64 rfl rfl ?_
    refine X_getfield (pc := 65) dX6_inverse_65 fg_X6_29_4 o1 g6 ?_
    refine X_isi (pc := 68) _ dX6_inverse_68 cs_X6_89 rfl (isZero_ok g w.1 hl) nX6_isZero (Nat.le_of_ble_eq_true rfl) (Nat.le_of_ble_eq_true rfl) (Nat.le_of_ble_eq_true rfl) (Nat.le_of_ble_eq_true rfl) (fun r1 h1 q1 => ?_)
    obtain ⟨er, rfl⟩ := q1
    by_cases hz : V n U = 0
    · rw [if_pos hz] at er
      subst er
      refine X_if_ne (pc := 71) 218 dX6_inverse_71 (by decide) (fun c_71 => ?_) (fun c_71 => ?_)
      · refine fin U W X Y _ s w hz ?_
        rcases hI with hI | hI
        · exact hI
        · omega
      · exact absurd c_71 (by decide)
    · rw [if_neg hz] at er
      subst er
      refine X_if_ne (pc := 71) 218 dX6_inverse_71 (by decide) (fun c_71 => ?_) (fun c_71 => ?_)
      · exact absurd rfl c_71
      · exact first (V n U) U W X Y _ s (Nat.le_refl _) (by omega) w hW (by omega) hI
  -- the start
  have zeros : ∀ (U W X Y : Nat → Int32) (h' : AH), W4x n h au av ax ay U W X Y h' → V n U = va → V n W = mv → V n X = 1 → ∀ m k, k + m = n → (∀ j, j < k → Y j = 0) → XX g MX6_inverse ({ frames := 3, cells := 0, slots := 0, locals := 69 } : Room) Q 0 0 41 [(3, .int (nI k)), (0, .ref M), (1, .ref a), (2, .ref to)] [] h' := by
    intro U W X Y h' w hU hW hX m
    induction m generalizing Y h' with
    | zero =>
      intro k hk hY
      obtain ⟨o1, o2, o3, o4, o5⟩ := out0 w
      have hkn : k = n := by omega
      subst hkn
      refine X_iload_n (pc := 41) 0 dX6_inverse_41 rfl rfl ?_
      refine X_aload_n (pc := 42) 1 dX6_inverse_42 rfl rfl ?_
      refine X_getfield (pc := 43) dX6_inverse_43 fg_X6_7_4 o1 g0 ?_
      refine X_cge (pc := 46) 62 dX6_inverse_46 (by decide) (by omega) (Nat.le_refl _) (fun _ => ?_) (fun c => absurd c (Nat.lt_irrefl _))
      refine X_iconst (pc := 62) (x := 0) dX6_inverse_62 (by decide) ?_
      refine X_istore_n (pc := 63) (L' := [(3, .int _), (0, .ref _), (1, .ref _), (2, .ref _)]) dX6_inverse_63 rfl (Nat.le_of_ble_eq_true rfl) rfl ?_
      refine loop _ U W X Y h' 0 (Nat.le_refl _) w (by omega) (Or.inl ?_)
      rw [hU, hW, hX, (V_0 _ Y).mpr hY]
      exact IvI.init hodd h1
    | succ m ih =>
      intro k hk hY
      obtain ⟨o1, o2, o3, o4, o5⟩ := out0 w
      have ck : (nI k).toNatClampNeg = k := nI_clamp (by omega)
      have b3 : vp_in (nI k) n := vp_in_nI (by omega) (by omega)
      refine X_iload_n (pc := 41) 0 dX6_inverse_41 rfl rfl ?_
      refine X_aload_n (pc := 42) 1 dX6_inverse_42 rfl rfl ?_
      refine X_getfield (pc := 43) dX6_inverse_43 fg_X6_7_4 o1 g0 ?_
      refine X_cge (pc := 46) 62 dX6_inverse_46 (by decide) (by omega) (by omega) (fun c => absurd c (by omega)) (fun _ => ?_)
      refine X_aload_n (pc := 49) 1 dX6_inverse_49 rfl rfl ?_
      refine X_getfield (pc := 50) dX6_inverse_50 fg_X6_38_4 o1 g9 ?_
      refine X_iload_n (pc := 53) 0 dX6_inverse_53 rfl rfl ?_
      refine X_iconst (pc := 54) (x := 0) dX6_inverse_54 (by decide) ?_
      refine X_iastore (pc := 55) dX6_inverse_55 w.2.2.2.1 b3 ?_
      refine X_iinc (pc := 56) (L' := [(3, .int (_ + 1)), (0, .ref _), (1, .ref _), (2, .ref _)]) 0 dX6_inverse_56 rfl rfl (Nat.le_of_ble_eq_true rfl) rfl ?_
      refine X_goto (pc := 59) 41 dX6_inverse_59 (by decide) ?_
      rw [ck, nI_1]
      refine ih _ _ (w.st d (upd Y k 0)) (k + 1) (by omega) (fun j hj => ?_)
      by_cases e : j = k
      · subst e; exact pk_us
      · rw [pk_un e]; exact hY j (by omega)
  refine X_aload_n (pc := 0) 1 dX6_inverse_0 rfl rfl ?_
  refine X_isi (pc := 1) _ dX6_inverse_1 cs_X6_89 rfl (isZero_ok g ha hl) nX6_isZero (Nat.le_of_ble_eq_true rfl) (Nat.le_of_ble_eq_true rfl) (Nat.le_of_ble_eq_true rfl) (Nat.le_of_ble_eq_true rfl) (fun r1 h1 q1 => ?_)
  obtain ⟨er, rfl⟩ := q1
  rw [hva] at er
  by_cases hz : va = 0
  · rw [if_pos hz] at er
    subst er
    refine X_if_eq (pc := 4) 9 dX6_inverse_4 (by decide) (fun c_4 => ?_) (fun c_4 => ?_)
    · exact absurd c_4 (by decide)
    · refine X_iconst (pc := 7) (x := 0) dX6_inverse_7 (by decide) ?_
      subst hQ
      refine X_zreturn (pc := 8) dX6_inverse_8 rfl (by first | exact Or.inl rfl | exact Or.inr rfl | assumption | exact zo_if) (Nat.le_of_ble_eq_true rfl) (Nat.le_of_ble_eq_true rfl) ?_
      refine ⟨_, rfl, U0, W0, X0, Y0, fo, ?_, ?_, ?_⟩
      · rw [if_neg]
        rw [hz, Nat.gcd_zero_left]
        omega
      · intro hg
        rw [hz, Nat.gcd_zero_left] at hg
        omega
      · rw [hset_same w0.1, hset_same w0.2.1, hset_same w0.2.2.1, hset_same w0.2.2.2.1, hset_same ho]
  · rw [if_neg hz] at er
    subst er
    refine X_if_eq (pc := 4) 9 dX6_inverse_4 (by decide) (fun c_4 => ?_) (fun c_4 => ?_)
    · obtain ⟨o1, o2, o3, o4, o5⟩ := out0 w0
      refine X_aload_n (pc := 9) 1 dX6_inverse_9 rfl rfl ?_
      refine X_aload_n (pc := 10) 0 dX6_inverse_10 rfl rfl ?_
      refine X_getfield (pc := 11) dX6_inverse_11 fg_X6_29_4 o1 g6 ?_
      refine X_isv (pc := 14) _ dX6_inverse_14 cs_X6_44 rfl (copy_ok g o4 w0.1 (Nat.le_refl n) hl) nX6_copy (Nat.le_of_ble_eq_true rfl) (Nat.le_of_ble_eq_true rfl) (Nat.le_of_ble_eq_true rfl) (Nat.le_of_ble_eq_true rfl) (fun h2 q2 => ?_)
      have w1 := w0.sl d (va_cpy fa U0 0 0 n)
      subst q2
      obtain ⟨p1, p2, p3, p4, p5⟩ := out0 w1
      refine X_aload_n (pc := 17) 0 dX6_inverse_17 rfl rfl ?_
      refine X_getfield (pc := 18) dX6_inverse_18 fg_X6_13_4 p1 g1 ?_
      refine X_aload_n (pc := 21) 0 dX6_inverse_21 rfl rfl ?_
      refine X_getfield (pc := 22) dX6_inverse_22 fg_X6_32_4 p1 g7 ?_
      refine X_isv (pc := 25) _ dX6_inverse_25 cs_X6_44 rfl (copy_ok g p2 w1.2.1 (Nat.le_refl n) hl) nX6_copy (Nat.le_of_ble_eq_true rfl) (Nat.le_of_ble_eq_true rfl) (Nat.le_of_ble_eq_true rfl) (Nat.le_of_ble_eq_true rfl) (fun h3 q3 => ?_)
      have w2 := w1.sr d (va_cpy fm W0 0 0 n)
      subst q3
      obtain ⟨p1, p2, p3, p4, p5⟩ := out0 w2
      refine X_aload_n (pc := 28) 0 dX6_inverse_28 rfl rfl ?_
      refine X_getfield (pc := 29) dX6_inverse_29 fg_X6_23_4 p1 g4 ?_
      refine X_aload_n (pc := 32) 0 dX6_inverse_32 rfl rfl ?_
      refine X_getfield (pc := 33) dX6_inverse_33 fg_X6_35_4 p1 g8 ?_
      refine X_isv (pc := 36) _ dX6_inverse_36 cs_X6_44 rfl (copy_ok g p3 w2.2.2.1 (Nat.le_refl n) hl) nX6_copy (Nat.le_of_ble_eq_true rfl) (Nat.le_of_ble_eq_true rfl) (Nat.le_of_ble_eq_true rfl) (Nat.le_of_ble_eq_true rfl) (fun h4 q4 => ?_)
      have w3 := w2.so d (va_cpy fo1 X0 0 0 n)
      subst q4
      refine X_iconst (pc := 39) (x := 0) dX6_inverse_39 (by decide) ?_
      refine X_istore_n (pc := 40) (L' := [(3, .int _), (0, .ref _), (1, .ref _), (2, .ref _)]) dX6_inverse_40 rfl (Nat.le_of_ble_eq_true rfl) rfl ?_
      exact zeros _ _ _ _ _ w3 (by rw [V_cpy, hva]) (by rw [V_cpy, hvm]) (by rw [V_cpy, hu]) n 0 (by omega) (fun j hj => absurd hj (Nat.not_lt_zero j))
    · exact absurd c_4 (by decide)
