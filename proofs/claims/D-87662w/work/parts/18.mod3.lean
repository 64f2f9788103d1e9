set_option maxRecDepth 100000
theorem ne_of {h : AH} {a b : Nat} {c d : AC} (ha : h a = some c) (hb : h b = some d) (e : c ≠ d) : a ≠ b := fun z => by
  subst z
  rw [ha] at hb
  exact e (Option.some.inj hb)
/-- a number in an array of n limbs -/
abbrev nm (n v : Nat) : AC := Ai false 0 n (lim v)
theorem plus_step (x y : Int32) {w d w' : Int64} (hw : w = 0 ∨ w = 1) (ed : d = w + ((x.toInt64 &&& 4294967295) + (y.toInt64 &&& 4294967295))) (ew : w' = d >>> ((32 : Int32).toInt64 &&& 63)) :
    (w' = 0 ∨ w' = 1) ∧ (u32 d.toInt32 : Int) + w'.toInt * 2 ^ 32 = u32 x + u32 y + w.toInt := by
  have h1 := u32_lt x
  have h2 := u32_lt y
  have hw2 : w.toInt = 0 ∨ w.toInt = 1 := by rcases hw with rfl | rfl; exact Or.inl rfl; exact Or.inr rfl
  have hx := low_toInt x
  have hy := low_toInt y
  generalize x.toInt64 &&& 4294967295 = X at ed hx
  generalize y.toInt64 &&& 4294967295 = Y at ed hy
  have h3 : (X + Y).toInt = (u32 x : Int) + u32 y := by rw [l_add (by omega) (by omega), hx, hy]
  have hd : d.toInt = w.toInt + ((u32 x : Int) + u32 y) := by rw [ed, l_add (by omega) (by omega), h3]
  have h4 := l_lo d
  have h5 : w'.toInt = d.toInt / 2 ^ 32 := by rw [ew, l_hi]
  have h6 : w'.toInt = 0 ∨ w'.toInt = 1 := by omega
  refine ⟨?_, by omega⟩
  rcases h6 with h6 | h6
  · exact Or.inl (Int64.toInt_inj.mp (by rw [h6]; rfl))
  · exact Or.inr (Int64.toInt_inj.mp (by rw [h6]; rfl))
theorem V_add_step {k : Nat} {f fa fb : Nat → Int32} {x : Int32} {w w' : Int} (hv : (V k f : Int) + w * 2 ^ (32 * k) = V k fa + V k fb) (h : (u32 x : Int) + w' * 2 ^ 32 = u32 (fa k) + u32 (fb k) + w) :
    ((V k f + u32 x * 2 ^ (32 * k) : Nat) : Int) + w' * 2 ^ (32 * (k + 1)) = V (k + 1) fa + V (k + 1) fb := by
  have e : (2 : Int) ^ (32 * (k + 1)) = 2 ^ 32 * 2 ^ (32 * k) := by rw [← Int.pow_add]; congr 1; omega
  show ((V k f + u32 x * 2 ^ (32 * k) : Nat) : Int) + _ = ((V k fa + u32 (fa k) * 2 ^ (32 * k) : Nat) : Int) + ((V k fb + u32 (fb k) * 2 ^ (32 * k) : Nat) : Int)
  rw [e]
  push_cast
  generalize (2 : Int) ^ (32 * k) = K at hv ⊢
  grind
set_option maxHeartbeats 4000000 in
theorem plus_loop (g : GX) {h : AH} {a b out n nb no : Nat} {ra rb : Bool} {fa fb fo : Nat → Int32} (Q : Outcome → AH → Prop) (ha : h a = some (Ai ra 0 n fa)) (hb : h b = some (Ai rb 0 nb fb)) (ho : h out = some (Ai false 0 no fo)) (hnb : n ≤ nb) (hno : n ≤ no) (hn : nb < 2 ^ 31 ∧ no < 2 ^ 31)
    (hQ : ∀ (r : Int32) (f : Nat → Int32), (r = 0 ∨ r = 1) → (∀ j, n ≤ j → f j = fo j) → (V n f : Int) + r.toInt * 2 ^ (32 * n) = V n fa + V n fb → Q (.returned (some (.int r))) (hset h out (Ai false 0 no f))) :
    ∀ (m k : Nat) (f : Nat → Int32) (w : Int64), n = k + m → (w = 0 ∨ w = 1) → (∀ j, k ≤ j → f j = fo j) → (V k f : Int) + w.toInt * 2 ^ (32 * k) = V k fa + V k fb →
      XX g MX6_plus ({ frames := 0, cells := 0, slots := 0, locals := 0 } : Room) Q 0 0 5 [(5, .int (nI k)), (3, .long w), (0, .ref a), (1, .ref b), (2, .ref out)] [] (hset h out (Ai false 0 no f)) := by
  intro m
  induction m with
  | zero =>
    intro k f w hk hw hf hv
    obtain rfl : n = k := hk
    obtain ⟨r1, f1, g1, -⟩ := rdI n ha ho (hf n (Nat.le_refl n))
    refine X_iload (pc := 5) 0 dX6_plus_5 rfl ?_
    refine X_aload_n (pc := 7) 2 dX6_plus_7 rfl rfl ?_
    refine X_alenI (pc := 8) dX6_plus_8 (by assumption) (fun _ => rfl) ?_
    refine X_icmp_ge (pc := 9) 51 dX6_plus_9 (by decide) (fun c_9 => ?_) (fun c_9 => ?_)
    · refine X_lload_n (pc := 51) 1 dX6_plus_51 rfl rfl ?_
      refine X_l2i (pc := 52) dX6_plus_52 ?_
      refine X_ireturn (pc := 53) dX6_plus_53 rfl (Nat.le_of_ble_eq_true rfl) (Nat.le_of_ble_eq_true rfl) ?_
      rcases hw with rfl | rfl
      · exact hQ _ f (Or.inl rfl) hf hv
      · exact hQ _ f (Or.inr rfl) hf hv
    · exact absurd (Int32.le_refl (nI n)) c_9
  | succ m ih =>
    intro k f w hk hw hf hv
    obtain ⟨r1, f1, g1, e1⟩ := rdI k ha ho (hf k (Nat.le_refl k))
    obtain ⟨r2, f2, g2, e2⟩ := rdI k hb ho (hf k (Nat.le_refl k))
    have b1 : vp_in (nI k) n := vp_in_nI (by omega) (by omega)
    have b2 : vp_in (nI k) nb := vp_in_nI (by omega) (by omega)
    have b3 : vp_in (nI k) no := vp_in_nI (by omega) (by omega)
    have ck : (nI k).toNatClampNeg = k := nI_clamp (by omega)
    refine X_iload (pc := 5) 0 dX6_plus_5 rfl ?_
    refine X_aload_n (pc := 7) 2 dX6_plus_7 rfl rfl ?_
    refine X_alenI (pc := 8) dX6_plus_8 (by assumption) (fun _ => rfl) ?_
    refine X_icmp_ge (pc := 9) 51 dX6_plus_9 (by decide) (fun c_9 => ?_) (fun c_9 => ?_)
    · exact absurd c_9 (nI_ge (by omega) (by omega))
    · refine X_lload_n (pc := 12) 1 dX6_plus_12 rfl rfl ?_
      refine X_aload_n (pc := 13) 2 dX6_plus_13 rfl rfl ?_
      refine X_iload (pc := 14) 0 dX6_plus_14 rfl ?_
      refine X_iaload (pc := 16) dX6_plus_16 g1 b1 ?_
      refine X_i2l (pc := 17) dX6_plus_17 ?_
      refine X_ldc2 (pc := 18) dX6_plus_18 q266 ?_
      refine X_land (pc := 21) dX6_plus_21 ?_
      refine X_aload_n (pc := 22) 3 dX6_plus_22 rfl rfl ?_
      refine X_iload (pc := 23) 0 dX6_plus_23 rfl ?_
      refine X_iaload (pc := 25) dX6_plus_25 g2 b2 ?_
      refine X_i2l (pc := 26) dX6_plus_26 ?_
      refine X_ldc2 (pc := 27) dX6_plus_27 q266 ?_
      refine X_land (pc := 30) dX6_plus_30 ?_
      refine X_ladd (pc := 31) dX6_plus_31 ?_
      refine X_ladd (pc := 32) dX6_plus_32 ?_
      rw [ck, e1, e2]
      refine X_topl (fun d ed => ?_)
      refine X_lstore_n (pc := 33) (L' := [(3, .long _), (5, .int _), (0, .ref _), (1, .ref _), (2, .ref _)]) dX6_plus_33 rfl (Nat.le_of_ble_eq_true rfl) rfl ?_
      refine X_aload_n (pc := 34) 4 dX6_plus_34 rfl rfl ?_
      refine X_iload (pc := 35) 1 dX6_plus_35 rfl ?_
      refine X_lload_n (pc := 37) 0 dX6_plus_37 rfl rfl ?_
      refine X_l2i (pc := 38) dX6_plus_38 ?_
      refine X_iastore (pc := 39) dX6_plus_39 (hset_self _ _ _) b3 ?_
      refine XX.eqh (hset_hset _ _ _ _) ?_
      rw [ck]
      refine X_lload_n (pc := 40) 0 dX6_plus_40 rfl rfl ?_
      refine X_bipush (pc := 41) (x := 32) dX6_plus_41 (by decide) ?_
      refine X_lshr (pc := 43) dX6_plus_43 ?_
      refine X_topl (fun w' ew => ?_)
      refine X_lstore_n (pc := 44) (L' := [(3, .long _), (5, .int _), (0, .ref _), (1, .ref _), (2, .ref _)]) dX6_plus_44 rfl (Nat.le_of_ble_eq_true rfl) rfl ?_
      refine X_iinc (pc := 45) (L' := [(5, .int (_ + 1)), (3, .long _), (0, .ref _), (1, .ref _), (2, .ref _)]) 1 dX6_plus_45 rfl rfl (Nat.le_of_ble_eq_true rfl) rfl ?_
      refine X_goto (pc := 48) 5 dX6_plus_48 (by decide) ?_
      rw [nI_1]
      refine XX.pick (L' := [(5, .int _), (3, .long _), (0, .ref _), (1, .ref _), (2, .ref _)]) [0, 1, 2, 3, 4] rfl ?_
      obtain ⟨h1, h2⟩ := plus_step (fa k) (fb k) hw ed ew
      refine ih (k + 1) _ w' (by omega) h1 (fun j hj => ?_) ?_
      · rw [pk_un (by omega)]
        exact hf j (by omega)
      · rw [V_upd]
        exact V_add_step hv h2
theorem plus_ok (g : GX) {h : AH} {a b out n nb no : Nat} {ra rb : Bool} {fa fb fo : Nat → Int32} (ha : h a = some (Ai ra 0 n fa)) (hb : h b = some (Ai rb 0 nb fb)) (ho : h out = some (Ai false 0 no fo)) (hnb : n ≤ nb) (hno : n ≤ no) (hn : nb < 2 ^ 31 ∧ no < 2 ^ 31) :
    MT g MX6_plus ({ frames := 0, cells := 0, slots := 0, locals := 0 } : Room) [.ref a, .ref b, .ref out] h (RI fun r h' => ∃ f : Nat → Int32, (r = 0 ∨ r = 1) ∧ (∀ j, n ≤ j → f j = fo j) ∧ (V n f : Int) + r.toInt * 2 ^ (32 * n) = V n fa + V n fb ∧ h' = hset h out (Ai false 0 no f)) := by
  refine MT.of (by decide) (Nat.le_of_ble_eq_true rfl) ?_
  refine X_lconst (pc := 0) (x := 0) dX6_plus_0 (by decide) ?_
  refine X_lstore_n (pc := 1) (L' := [(3, .long _), (0, .ref _), (1, .ref _), (2, .ref _)]) dX6_plus_1 rfl (Nat.le_of_ble_eq_true rfl) rfl ?_
  refine X_iconst (pc := 2) (x := 0) dX6_plus_2 (by decide) ?_
  refine X_istore (pc := 3) (L' := [(5, .int _), (3, .long _), (0, .ref _), (1, .ref _), (2, .ref _)]) dX6_plus_3 (Nat.le_of_ble_eq_true rfl) rfl ?_
  refine XX.pick (L' := [(5, .int _), (3, .long _), (0, .ref _), (1, .ref _), (2, .ref _)]) [0, 1, 2, 3, 4] rfl ?_
  refine XX.eqh (hset_same ho).symm ?_
  exact plus_loop g _ ha hb ho hnb hno hn (fun r f h1 h2 h3 => ⟨r, rfl, f, h1, h2, h3, rfl⟩) n 0 fo 0 (by omega) (Or.inl rfl) (fun _ _ => rfl) (by show (0 : Int) + 0 * _ = 0 + 0; omega)
/-- limbs that make a number may be said to be its limbs -/
theorem XX.toNm {g : GX} {M : MI} {rm : Room} {Q : Outcome → AH → Prop} {k n pc : Nat} {L : List (Nat × Value)} {st : List Value} {h : AH} {a N v : Nat} {f : Nat → Int32} (hv : V N f = v) (kk : XX g M rm Q k n pc L st (hset h a (nm N v))) : XX g M rm Q k n pc L st (hset h a (Ai false 0 N f)) := by
  subst hv
  refine XX.congrI (hset_self _ _ _) (f' := lim (V N f)) (fun j hj => (lim_V f hj).symm) ?_
  rw [hset_hset]
  exact kk
theorem V_nm {n v : Nat} (h : v < 2 ^ (32 * n)) : V n (lim v) = v := by rw [V_lim, Nat.mod_eq_of_lt h]
set_option maxHeartbeats 4000000 in
/-- the sum under the modulus -/
theorem madd_ok (g : GX) {h : AH} {M am a b out n mv va vb vo : Nat} {fs : List Value} (hM : h M = some (Ob 4 fs)) (h1 : fs[1]? = some (.ref am)) (hm : h am = some (nm n mv)) (ha : h a = some (nm n va)) (hb : h b = some (nm n vb)) (ho : h out = some (nm n vo))
    (hne : am ≠ out) (hva : va < mv) (hvb : vb < mv) (hmv : mv < 2 ^ (32 * n)) (hn : n < 2 ^ 31) :
    MT g MX6_add ({ frames := 3, cells := 0, slots := 0, locals := 64 } : Room) [.ref M, .ref a, .ref b, .ref out] h (RV fun h' => h' = hset h out (nm n ((va + vb) % mv))) := by
  refine MT.of (by decide) (Nat.le_of_ble_eq_true rfl) ?_
  have hMo : M ≠ out := ne_of hM ho (fun e => by cases e)
  have ea := V_nm (Nat.lt_trans hva hmv)
  have eb := V_nm (Nat.lt_trans hvb hmv)
  have em := V_nm hmv
  refine X_aload_n (pc := 0) 1 dX6_add_0 rfl rfl ?_
  refine X_aload_n (pc := 1) 2 dX6_add_1 rfl rfl ?_
  refine X_aload_n (pc := 2) 3 dX6_add_2 rfl rfl ?_
  refine X_isi (pc := 3) _ dX6_add_3 cs_X6_70 rfl (plus_ok g ha hb ho (Nat.le_refl n) (Nat.le_refl n) ⟨hn, hn⟩) nX6_plus (Nat.le_of_ble_eq_true rfl) (Nat.le_of_ble_eq_true rfl) (Nat.le_of_ble_eq_true rfl) (Nat.le_of_ble_eq_true rfl) (fun r h1 q => ?_)
  obtain ⟨f, hr, -, hv, rfl⟩ := q
  rw [ea, eb] at hv
  have hVl := V_lt n f
  have hfo := hset_self h out (Ai false 0 n f)
  have hfM : hset h out (Ai false 0 n f) M = some (Ob 4 fs) := by rw [hset_ne hMo]; exact hM
  have hfm : hset h out (Ai false 0 n f) am = some (nm n mv) := by rw [hset_ne hne]; exact hm
  have hp : ((2 ^ (32 * n) : Nat) : Int) = (2 : Int) ^ (32 * n) := by push_cast; rfl
  have fin : mv ≤ va + vb → XX g MX6_add ({ frames := 3, cells := 0, slots := 0, locals := 64 } : Room) (RV fun h' => h' = hset h out (nm n ((va + vb) % mv))) 0 0 24 [(4, .int r), (0, .ref M), (1, .ref a), (2, .ref b), (3, .ref out)] [] (hset h out (Ai false 0 n f)) := by
    intro hge
    refine X_aload_n (pc := 24) 4 dX6_add_24 rfl rfl ?_
    refine X_aload_n (pc := 25) 1 dX6_add_25 rfl rfl ?_
    refine X_getfield (pc := 26) dX6_add_26 fg_X6_13_4 (by assumption) (by first | rfl | assumption) ?_
    refine X_aload_n (pc := 29) 4 dX6_add_29 rfl rfl ?_
    refine X_isi (pc := 30) _ dX6_add_30 cs_X6_74 rfl (minus_ok g hfo hfm hfo (Nat.le_refl n) (Nat.le_refl n) ⟨hn, hn⟩) nX6_minus (Nat.le_of_ble_eq_true rfl) (Nat.le_of_ble_eq_true rfl) (Nat.le_of_ble_eq_true rfl) (Nat.le_of_ble_eq_true rfl) (fun r2 h2 q2 => ?_)
    obtain ⟨f2, hr2, -, hv2, rfl⟩ := q2
    rw [em] at hv2
    have hVl2 := V_lt n f2
    refine X_istore (pc := 33) (L' := [(4, .int _), (0, .ref _), (1, .ref _), (2, .ref _), (3, .ref _)]) dX6_add_33 (Nat.le_of_ble_eq_true rfl) rfl ?_
    refine XX.eqh (hset_hset _ _ _ _) ?_
    have e2 : V n f2 = (va + vb) % mv := by
      rw [Nat.mod_eq_sub_mod hge, Nat.mod_eq_of_lt (by omega)]
      rcases hr with rfl | rfl <;> rcases hr2 with rfl | rfl
      · have e0 : (0 : Int32).toInt = 0 := rfl
        rw [e0] at hv hv2
        omega
      · have e0 : (0 : Int32).toInt = 0 := rfl
        have e1 : (-1 : Int32).toInt = -1 := rfl
        rw [e0] at hv
        rw [e1] at hv2
        omega
      · have e0 : (0 : Int32).toInt = 0 := rfl
        have e1 : (1 : Int32).toInt = 1 := rfl
        rw [e1] at hv
        rw [e0] at hv2
        omega
      · have e1 : (1 : Int32).toInt = 1 := rfl
        have e3 : (-1 : Int32).toInt = -1 := rfl
        rw [e1] at hv
        rw [e3] at hv2
        omega
    refine XX.toNm e2 ?_
    refine X_return (pc := 35) dX6_add_35 rfl (Nat.le_of_ble_eq_true rfl) (Nat.le_of_ble_eq_true rfl) ?_
    exact ⟨rfl, rfl⟩
  refine X_istore (pc := 6) (L' := [(4, .int _), (0, .ref _), (1, .ref _), (2, .ref _), (3, .ref _)]) dX6_add_6 (Nat.le_of_ble_eq_true rfl) rfl ?_
  refine X_iload (pc := 8) 0 dX6_add_8 rfl ?_
  refine X_if_ne (pc := 10) 24 dX6_add_10 (by decide) (fun c_10 => ?_) (fun c_10 => ?_)
  · refine fin ?_
    rcases hr with rfl | rfl
    · exact absurd rfl c_10
    · have e1 : (1 : Int32).toInt = 1 := rfl
      rw [e1] at hv
      omega
  · subst c_10
    have e0 : (0 : Int32).toInt = 0 := rfl
    rw [e0] at hv
    refine X_aload_n (pc := 13) 4 dX6_add_13 rfl rfl ?_
    refine X_aload_n (pc := 14) 1 dX6_add_14 rfl rfl ?_
    refine X_getfield (pc := 15) dX6_add_15 fg_X6_13_4 (by assumption) (by first | rfl | assumption) ?_
    refine X_isi (pc := 18) _ dX6_add_18 cs_X6_64 rfl (compare_ok g hfo hfm (Nat.le_refl n) hn) nX6_compare (Nat.le_of_ble_eq_true rfl) (Nat.le_of_ble_eq_true rfl) (Nat.le_of_ble_eq_true rfl) (Nat.le_of_ble_eq_true rfl) (fun r2 h2 q2 => ?_)
    obtain ⟨er, rfl⟩ := q2
    rw [em] at er
    refine X_if_lt (pc := 21) 35 dX6_add_21 (by decide) (fun c_21 => ?_) (fun c_21 => ?_)
    · have hlt : V n f < mv := by
        rw [er] at c_21
        unfold cmpN at c_21
        split at c_21
        · assumption
        · split at c_21
          · exact absurd c_21 (by decide)
          · exact absurd c_21 (by decide)
      refine XX.toNm (v := (va + vb) % mv) (by rw [Nat.mod_eq_of_lt (by omega)]; omega) ?_
      refine X_return (pc := 35) dX6_add_35 rfl (Nat.le_of_ble_eq_true rfl) (Nat.le_of_ble_eq_true rfl) ?_
      exact ⟨rfl, rfl⟩
    · refine fin ?_
      rw [er] at c_21
      unfold cmpN at c_21
      split at c_21
      · exact absurd (show (-1 : Int32) < 0 by decide) c_21
      · omega
