set_option maxRecDepth 100000
theorem XX.pick {g : GX} {M : MI} {rm : Room} {Q : Outcome → AH → Prop} {k n pc : Nat} {L L' : List (Nat × Value)} {st : List Value} {h : AH} (ks : List Nat) (hl : lv_pick L ks = L') (kk : XX g M rm Q k n pc L' st h) : XX g M rm Q k n pc L st h :=
  fun p l e s m args below meth c locs H ls C hl' hA hS => kk p l e s m args below meth c locs H ls C (lv_sub hl' ks hl) hA hS
theorem rdI {h : AH} {a out N no : Nat} {ro : Bool} {f fo fa : Nat → Int32} (k : Nat) (ha : h a = some (Ai ro 0 N fa)) (ho : h out = some (Ai false 0 no fo)) (hf : f k = fo k) : ∃ ro' f', hset h out (Ai false 0 no f) a = some (Ai ro' 0 N f') ∧ f' k = fa k := by
  by_cases e : a = out
  · subst e
    rw [ho] at ha
    cases ha
    exact ⟨false, f, hset_self _ _ _, hf⟩
  · exact ⟨ro, fa, by rw [hset_ne e]; exact ha, rfl⟩
/-- a limb is set at the end of a number -/
theorem V_upd {n : Nat} {f : Nat → Int32} {x : Int32} : V (n + 1) (upd f n x) = V n f + u32 x * 2 ^ (32 * n) := by
  show V n (upd f n x) + u32 (upd f n x n) * 2 ^ (32 * n) = _
  rw [pk_us, V_congr fun j hj => pk_un (by omega)]
theorem minus_step (x y : Int32) {w d w' : Int64} (hw : w = 0 ∨ w = -1) (ed : d = (x.toInt64 &&& 4294967295) - (y.toInt64 &&& 4294967295) + w) (ew : w' = d >>> ((32 : Int32).toInt64 &&& 63)) :
    (w' = 0 ∨ w' = -1) ∧ (u32 d.toInt32 : Int) + u32 y = u32 x + w.toInt - w'.toInt * 2 ^ 32 := by
  have h1 := u32_lt x
  have h2 := u32_lt y
  have hw2 : w.toInt = 0 ∨ w.toInt = -1 := by rcases hw with rfl | rfl; exact Or.inl rfl; exact Or.inr rfl
  have hx := low_toInt x
  have hy := low_toInt y
  generalize x.toInt64 &&& 4294967295 = X at ed hx
  generalize y.toInt64 &&& 4294967295 = Y at ed hy
  have h3 : (X - Y).toInt = (u32 x : Int) - u32 y := by rw [l_sub (by omega) (by omega), hx, hy]
  have hd : d.toInt = (u32 x : Int) - u32 y + w.toInt := by rw [ed, l_add (by omega) (by omega), h3]
  have h4 := l_lo d
  have h5 : w'.toInt = d.toInt / 2 ^ 32 := by rw [ew, l_hi]
  have h6 : w'.toInt = 0 ∨ w'.toInt = -1 := by omega
  refine ⟨?_, by omega⟩
  rcases h6 with h6 | h6
  · exact Or.inl (Int64.toInt_inj.mp (by rw [h6]; rfl))
  · exact Or.inr (Int64.toInt_inj.mp (by rw [h6]; rfl))
theorem V_sub_step {k : Nat} {f fa fb : Nat → Int32} {x : Int32} {w w' : Int} (hv : (V k f : Int) + V k fb = V k fa - w * 2 ^ (32 * k)) (h : (u32 x : Int) + u32 (fb k) = u32 (fa k) + w - w' * 2 ^ 32) :
    ((V k f + u32 x * 2 ^ (32 * k) : Nat) : Int) + V (k + 1) fb = V (k + 1) fa - w' * 2 ^ (32 * (k + 1)) := by
  have e : (2 : Int) ^ (32 * (k + 1)) = 2 ^ 32 * 2 ^ (32 * k) := by rw [← Int.pow_add]; congr 1; omega
  show ((V k f + u32 x * 2 ^ (32 * k) : Nat) : Int) + ((V k fb + u32 (fb k) * 2 ^ (32 * k) : Nat) : Int) = ((V k fa + u32 (fa k) * 2 ^ (32 * k) : Nat) : Int) - _
  rw [e]
  push_cast
  generalize (2 : Int) ^ (32 * k) = K at hv ⊢
  grind
set_option maxHeartbeats 4000000 in
theorem minus_loop (g : GX) {h : AH} {a b out n nb no : Nat} {ra rb : Bool} {fa fb fo : Nat → Int32} (Q : Outcome → AH → Prop) (ha : h a = some (Ai ra 0 n fa)) (hb : h b = some (Ai rb 0 nb fb)) (ho : h out = some (Ai false 0 no fo)) (hnb : n ≤ nb) (hno : n ≤ no) (hn : nb < 2 ^ 31 ∧ no < 2 ^ 31)
    (hQ : ∀ (r : Int32) (f : Nat → Int32), (r = 0 ∨ r = -1) → (∀ j, n ≤ j → f j = fo j) → (V n f : Int) + V n fb = V n fa - r.toInt * 2 ^ (32 * n) → Q (.returned (some (.int r))) (hset h out (Ai false 0 no f))) :
    ∀ (m k : Nat) (f : Nat → Int32) (w : Int64), n = k + m → (w = 0 ∨ w = -1) → (∀ j, k ≤ j → f j = fo j) → (V k f : Int) + V k fb = V k fa - w.toInt * 2 ^ (32 * k) →
      XX g MX6_minus ({ frames := 0, cells := 0, slots := 0, locals := 0 } : Room) Q 0 0 5 [(5, .int (nI k)), (3, .long w), (0, .ref a), (1, .ref b), (2, .ref out)] [] (hset h out (Ai false 0 no f)) := by
  intro m
  induction m with
  | zero =>
    intro k f w hk hw hf hv
    obtain rfl : n = k := hk
    obtain ⟨r1, f1, g1, -⟩ := rdI n ha ho (hf n (Nat.le_refl n))
    refine X_iload (pc := 5) 0 dX6_minus_5 rfl ?_
    refine X_aload_n (pc := 7) 2 dX6_minus_7 rfl rfl ?_
    refine X_alenI (pc := 8) dX6_minus_8 (by assumption) (fun _ => rfl) ?_
    refine X_icmp_ge (pc := 9) 54 dX6_minus_9 (by decide) (fun c_9 => ?_) (fun c_9 => ?_)
    · refine X_lload_n (pc := 54) 1 dX6_minus_54 rfl rfl ?_
      refine X_l2i (pc := 55) dX6_minus_55 ?_
      refine X_ireturn (pc := 56) dX6_minus_56 rfl (Nat.le_of_ble_eq_true rfl) (Nat.le_of_ble_eq_true rfl) ?_
      rcases hw with rfl | rfl
      · exact hQ _ f (Or.inl rfl) hf hv
      · exact hQ _ f (Or.inr rfl) hf hv
    · exact absurd (Int32.le_refl (nI n)) c_9
  | succ m ih =>
    intro k f w hk hw hf hv
    obtain ⟨r1, f1, g1, e1⟩ := rdI k ha ho (hf k (Nat.le_refl k))
    obtain ⟨r2, f2, g2, e2⟩ := rdI k hb ho (hf k (Nat.le_refl k))
    have b1 : vp_in (nI k) n := vp_in_nI (by omega) (by omega)
    have b2 : vp_in (nI k) nb := vp_in_nI (by omega) (by omega)
    have b3 : vp_in (nI k) no := vp_in_nI (by omega) (by omega)
    have ck : (nI k).toNatClampNeg = k := nI_clamp (by omega)
    refine X_iload (pc := 5) 0 dX6_minus_5 rfl ?_
    refine X_aload_n (pc := 7) 2 dX6_minus_7 rfl rfl ?_
    refine X_alenI (pc := 8) dX6_minus_8 (by assumption) (fun _ => rfl) ?_
    refine X_icmp_ge (pc := 9) 54 dX6_minus_9 (by decide) (fun c_9 => ?_) (fun c_9 => ?_)
    · exact absurd c_9 (nI_ge (by omega) (by omega))
    · refine X_aload_n (pc := 12) 2 dX6_minus_12 rfl rfl ?_
      refine X_iload (pc := 13) 0 dX6_minus_13 rfl ?_
      refine X_iaload (pc := 15) dX6_minus_15 g1 b1 ?_
      refine X_i2l (pc := 16) dX6_minus_16 ?_
      refine X_ldc2 (pc := 17) dX6_minus_17 q266 ?_
      refine X_land (pc := 20) dX6_minus_20 ?_
      refine X_aload_n (pc := 21) 3 dX6_minus_21 rfl rfl ?_
      refine X_iload (pc := 22) 0 dX6_minus_22 rfl ?_
      refine X_iaload (pc := 24) dX6_minus_24 g2 b2 ?_
      refine X_i2l (pc := 25) dX6_minus_25 ?_
      refine X_ldc2 (pc := 26) dX6_minus_26 q266 ?_
      refine X_land (pc := 29) dX6_minus_29 ?_
      refine X_lsub (pc := 30) dX6_minus_30 ?_
      refine X_lload_n (pc := 31) 1 dX6_minus_31 rfl rfl ?_
      refine X_ladd (pc := 32) dX6_minus_32 ?_
      rw [ck, e1, e2]
      refine X_topl (fun d ed => ?_)
      refine X_lstore (pc := 33) (L' := [(6, .long _), (5, .int _), (3, .long _), (0, .ref _), (1, .ref _), (2, .ref _)]) dX6_minus_33 (Nat.le_of_ble_eq_true rfl) rfl ?_
      refine X_aload_n (pc := 35) 5 dX6_minus_35 rfl rfl ?_
      refine X_iload (pc := 36) 1 dX6_minus_36 rfl ?_
      refine X_lload (pc := 38) 0 dX6_minus_38 rfl ?_
      refine X_l2i (pc := 40) dX6_minus_40 ?_
      refine X_iastore (pc := 41) dX6_minus_41 (hset_self _ _ _) b3 ?_
      refine XX.eqh (hset_hset _ _ _ _) ?_
      rw [ck]
      refine X_lload (pc := 42) 0 dX6_minus_42 rfl ?_
      refine X_bipush (pc := 44) (x := 32) dX6_minus_44 (by decide) ?_
      refine X_lshr (pc := 46) dX6_minus_46 ?_
      refine X_topl (fun w' ew => ?_)
      refine X_lstore_n (pc := 47) (L' := [(3, .long _), (6, .long _), (5, .int _), (0, .ref _), (1, .ref _), (2, .ref _)]) dX6_minus_47 rfl (Nat.le_of_ble_eq_true rfl) rfl ?_
      refine X_iinc (pc := 48) (L' := [(5, .int (_ + 1)), (3, .long _), (6, .long _), (0, .ref _), (1, .ref _), (2, .ref _)]) 2 dX6_minus_48 rfl rfl (Nat.le_of_ble_eq_true rfl) rfl ?_
      refine X_goto (pc := 51) 5 dX6_minus_51 (by decide) ?_
      rw [nI_1]
      refine XX.pick (L' := [(5, .int _), (3, .long _), (0, .ref _), (1, .ref _), (2, .ref _)]) [0, 1, 3, 4, 5] rfl ?_
      obtain ⟨h1, h2⟩ := minus_step (fa k) (fb k) hw ed ew
      refine ih (k + 1) _ w' (by omega) h1 (fun j hj => ?_) ?_
      · rw [pk_un (by omega)]
        exact hf j (by omega)
      · rw [V_upd]
        exact V_sub_step hv h2
theorem minus_ok (g : GX) {h : AH} {a b out n nb no : Nat} {ra rb : Bool} {fa fb fo : Nat → Int32} (ha : h a = some (Ai ra 0 n fa)) (hb : h b = some (Ai rb 0 nb fb)) (ho : h out = some (Ai false 0 no fo)) (hnb : n ≤ nb) (hno : n ≤ no) (hn : nb < 2 ^ 31 ∧ no < 2 ^ 31) :
    MT g MX6_minus ({ frames := 0, cells := 0, slots := 0, locals := 0 } : Room) [.ref a, .ref b, .ref out] h (RI fun r h' => ∃ f : Nat → Int32, (r = 0 ∨ r = -1) ∧ (∀ j, n ≤ j → f j = fo j) ∧ (V n f : Int) + V n fb = V n fa - r.toInt * 2 ^ (32 * n) ∧ h' = hset h out (Ai false 0 no f)) := by
  refine MT.of (by decide) (Nat.le_of_ble_eq_true rfl) ?_
  refine X_lconst (pc := 0) (x := 0) dX6_minus_0 (by decide) ?_
  refine X_lstore_n (pc := 1) (L' := [(3, .long _), (0, .ref _), (1, .ref _), (2, .ref _)]) dX6_minus_1 rfl (Nat.le_of_ble_eq_true rfl) rfl ?_
  refine X_iconst (pc := 2) (x := 0) dX6_minus_2 (by decide) ?_
  refine X_istore (pc := 3) (L' := [(5, .int _), (3, .long _), (0, .ref _), (1, .ref _), (2, .ref _)]) dX6_minus_3 (Nat.le_of_ble_eq_true rfl) rfl ?_
  refine XX.pick (L' := [(5, .int _), (3, .long _), (0, .ref _), (1, .ref _), (2, .ref _)]) [0, 1, 2, 3, 4] rfl ?_
  refine XX.eqh (hset_same ho).symm ?_
  exact minus_loop g _ ha hb ho hnb hno hn (fun r f h1 h2 h3 => ⟨r, rfl, f, h1, h2, h3, rfl⟩) n 0 fo 0 (by omega) (Or.inl rfl) (fun _ _ => rfl) (by show (0 : Int) + 0 = 0 - 0 * _; omega)
