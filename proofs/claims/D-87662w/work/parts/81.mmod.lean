set_option maxRecDepth 100000
/-! the reference: a modulus is made; its sizes; small powers -/
section MMd
variable {A : Nat → Nat} {X : AH} {R : Nat → Nat} {I : Nat → Nat → Int32} {S : Nat → List Int32} {F : Nat → Int32} {h : AH}
theorem MW.md (w : MW A X R I S F h) {j : Nat} (h1 : 2 ≤ j) (h2 : j < 8) : h (A (500 + j)) = some (Ob 12 [.ref (A (510 + j)), .ref (A (520 + j)), .int (F (540 + j)), .int (F (550 + j))]) := by
  have := w.o (500 + j) (kd_m h1 h2).1
  rwa [mO_m h1 h2] at this
theorem mFl_cg {F F' : Nat → Int32} (e : ∀ i, i < 96 → F' i = F i) : mFl A F' = mFl A F := by
  unfold mFl
  rw [e 0 (by decide), e 26 (by decide), e 33 (by decide), e 35 (by decide), e 70 (by decide), e 75 (by decide), e 77 (by decide), e 78 (by decide), e 79 (by decide), e 80 (by decide), e 82 (by decide), e 84 (by decide)]
theorem mO_hi {k q : Nat} {v : Int32} (hk : 431 ≤ k) (hq : 502 ≤ q → q < 508 → q + 40 ≠ k ∧ q + 50 ≠ k) : mO A (up F k v) q = mO A F q := by
  by_cases h96 : q = 96
  · subst h96
    unfold mO
    rw [if_pos rfl, if_pos rfl, mFl_cg fun i hi => up_ne (by omega)]
  · exact mO_cg h96 (fun _ _ => up_ne (by omega)) (fun a b => ⟨up_ne (hq a b).1, up_ne (hq a b).2⟩)
theorem MW.setFn (w : MW A X R I S F h) {j : Nat} (h1 : 2 ≤ j) (h2 : j < 8) {v : Int32} : MW A X R I S (up F (540 + j) v) (hset h (A (500 + j)) (Ob 12 [.ref (A (510 + j)), .ref (A (520 + j)), .int v, .int (F (550 + j))])) := by
  refine WD.setO w (500 + j) (kd_m h1 h2).1 ?_ (fun q hq => mO_hi (by omega) (fun _ _ => ⟨by omega, by omega⟩))
  rw [mO_m h1 h2, up_same, up_ne (by omega)]
theorem MW.setFs (w : MW A X R I S F h) {j : Nat} (h1 : 2 ≤ j) (h2 : j < 8) {v : Int32} : MW A X R I S (up F (550 + j) v) (hset h (A (500 + j)) (Ob 12 [.ref (A (510 + j)), .ref (A (520 + j)), .int (F (540 + j)), .int v])) := by
  refine WD.setO w (500 + j) (kd_m h1 h2).1 ?_ (fun q hq => mO_hi (by omega) (fun _ _ => ⟨by omega, by omega⟩))
  rw [mO_m h1 h2, up_same, up_ne (by omega)]
theorem nle0 {n : Nat} (h : n < 2 ^ 31) : nI n ≤ 0 ↔ n = 0 := by
  constructor
  · intro c
    have := (nI_leI (b := 0) h (by decide)).mp c
    omega
  · intro e
    subst e
    exact Int32.le_refl _
set_option maxHeartbeats 4000000 in
theorem modis_ok (g : GX) (w : MW A X R I S F h) {j n a na : Nat} {ra : Bool} {fa : Nat → Int32} (h1 : 2 ≤ j) (h2 : j < 8) (hn : 0 < n ∧ n ≤ 64) (ha : h a = some (Ai ra 0 na fa)) (hna : n ≤ na) (hna2 : na < 2 ^ 31) (e1 : a ≠ A (510 + j)) (e2 : a ≠ A (520 + j)) (htop : u32 (fa (n - 1)) ≠ 0) :
    MT g MX11_is ({ frames := 1, cells := 0, slots := 0, locals := 21 } : Room) [.ref (A (500 + j)), .ref a, .int (nI n)] h (RV fun h' => ∃ fm fh s, MW A X R (up (up I (510 + j) fm) (520 + j) fh) S (up (up F (540 + j) (nI n)) (550 + j) (nI s)) h' ∧ (∀ i, i < n → fm i = fa i) ∧ s < 32 ∧ V n fh = V n fa * 2 ^ s ∧ 2 ^ 31 ≤ u32 (fh (n - 1)) ∧ 2 ^ 31 ≤ u32 (fa (n - 1)) * 2 ^ s ∧ u32 (fa (n - 1)) * 2 ^ s < 2 ^ 32) := by
  refine MT.of (by decide) (Nat.le_of_ble_eq_true rfl) ?_
  generalize hPost : (RV fun h' => ∃ fm fh s, MW A X R (up (up I (510 + j) fm) (520 + j) fh) S (up (up F (540 + j) (nI n)) (550 + j) (nI s)) h' ∧ (∀ i, i < n → fm i = fa i) ∧ s < 32 ∧ V n fh = V n fa * 2 ^ s ∧ 2 ^ 31 ≤ u32 (fh (n - 1)) ∧ 2 ^ 31 ≤ u32 (fa (n - 1)) * 2 ^ s ∧ u32 (fa (n - 1)) * 2 ^ s < 2 ^ 32) = Post
  obtain ⟨k1, k2, k3⟩ := kd_m h1 h2
  have a0 : a ≠ A (500 + j) := fun e => by rw [e, w.md h1 h2] at ha; cases ha
  refine X_aload_n (pc := 0) 0 dX11_is_0 rfl rfl ?_
  refine X_iload_n (pc := 1) 2 dX11_is_1 rfl rfl ?_
  refine X_putfield (pc := 2) dX11_is_2 fp_X11_18_12 (fun e => by cases e) (w.md h1 h2) rfl rfl (Nat.le_of_ble_eq_true rfl) ?_
  have w1 := w.setFn h1 h2 (v := nI n)
  have ha1 : (hset h (A (500 + j)) (Ob 12 [.ref (A (510 + j)), .ref (A (520 + j)), .int (nI n), .int (F (550 + j))])) a = some (Ai ra 0 na fa) := by rw [hset_ne a0]; exact ha
  refine XX.eqh (h' := hset h (A (500 + j)) (Ob 12 [.ref (A (510 + j)), .ref (A (520 + j)), .int (nI n), .int (F (550 + j))])) rfl ?_
  generalize hset h (A (500 + j)) (Ob 12 [.ref (A (510 + j)), .ref (A (520 + j)), .int (nI n), .int (F (550 + j))]) = hh at *
  have q540 : (up F (540 + j) (nI n)) (540 + j) = nI n := up_same _ _ _
  generalize hF1 : up F (540 + j) (nI n) = F1 at *
  -- the shifted row
  have loop2 : ∀ (fm : Nat → Int32) (s : Nat), (∀ i, i < n → fm i = fa i) → s < 32 → 2 ^ 31 ≤ u32 (fa (n - 1)) * 2 ^ s → u32 (fa (n - 1)) * 2 ^ s < 2 ^ 32 → ∀ m, m ≤ n → ∀ fh h', (∀ i, m ≤ i → i < n → fh i = shF s fm i) → MW A X R (up (up I (510 + j) fm) (520 + j) fh) S (up F1 (550 + j) (nI s)) h' →
      XX g MX11_is ({ frames := 1, cells := 0, slots := 0, locals := 21 } : Room) Post 0 0 55 [(3, .int (nI m - 1)), (0, .ref (A (500 + j))), (1, .ref a), (2, .int (nI n))] [] h' := by
    intro fm s hfm hs t1 t2 m
    have q540' : (up F1 (550 + j) (nI s)) (540 + j) = nI n := by rw [up_ne (by omega)]; exact q540
    induction m with
    | zero =>
      intro _ fh h' hfh w'
      refine X_iload_n (pc := 55) 0 dX11_is_55 rfl rfl ?_
      refine X_if_lt (pc := 56) 114 dX11_is_56 (by decide) (fun c_56 => ?_) (fun c_56 => ?_)
      · subst hPost
        refine X_return (pc := 114) dX11_is_114 rfl (Nat.le_of_ble_eq_true rfl) (Nat.le_of_ble_eq_true rfl) ?_
        have eV : V n fh = V n (shF s fm) := V_congr fun i hi => hfh i (Nat.zero_le _) hi
        have eM : V n fm = V n fa := V_congr hfm
        have et : u32 (fm (n - 1)) = u32 (fa (n - 1)) := by rw [hfm _ (by omega)]
        have e3 := shF_V hs fm n
        rw [if_neg (by omega), et, Nat.div_eq_of_lt t2, Nat.zero_mul, Nat.add_zero, eM] at e3
        refine ⟨rfl, fm, fh, s, w', hfm, hs, by rw [eV, e3], ?_, t1, t2⟩
        rw [hfh (n - 1) (Nat.zero_le _) (by omega), u32_shF hs, et, Nat.mod_eq_of_lt t2]
        omega
      · exact absurd (show nI 0 - 1 < 0 by decide) c_56
    | succ k ih =>
      intro hk fh h' hfh w'
      rw [nI_pred]
      have ck : (nI k).toNatClampNeg = k := nI_clamp (by omega)
      have bk : vp_in (nI k) 64 := vp_in_nI (by omega) (by omega)
      have cm : h' (A (510 + j)) = some (Ai false 0 64 fm) := by
        have := w'.i (510 + j) k2
        rwa [up_ne (by omega), up_same] at this
      have ch : h' (A (520 + j)) = some (Ai false 0 64 fh) := by
        have := w'.i (520 + j) k3
        rwa [up_same] at this
      have cO := w'.md h1 h2
      rw [q540', up_same] at cO
      have fin : ∀ y : Int32, y = (if k = 0 then 0 else upS s (fm (k - 1))) → XX g MX11_is ({ frames := 1, cells := 0, slots := 0, locals := 21 } : Room) Post 0 0 106 [(3, .int (nI k)), (0, .ref (A (500 + j))), (1, .ref a), (2, .int (nI n))] [.int y, .int (fm k <<< (nI s &&& 31)), .int (nI k), .ref (A (520 + j))] h' := by
        intro y hy
        refine X_ior (pc := 106) dX11_is_106 ?_
        refine X_iastore (pc := 107) dX11_is_107 ch bk ?_
        rw [ck]
        have w2 := w'.setI (520 + j) k3 (upd fh k (shF s fm k))
        rw [up_up'] at w2
        have e : fm k <<< (nI s &&& 31) ||| y = shF s fm k := by rw [hy]; rfl
        rw [e]
        refine X_iinc (pc := 108) (L' := [(3, .int (_ + (-1))), (0, .ref _), (1, .ref _), (2, .int _)]) 0 dX11_is_108 rfl rfl (Nat.le_of_ble_eq_true rfl) rfl ?_
        refine X_goto (pc := 111) 55 dX11_is_111 (by decide) ?_
        rw [m1]
        refine ih (by omega) _ _ (fun i hi1 hi2 => ?_) w2
        by_cases ei : i = k
        · rw [ei, upd_at]
        · exact (if_neg ei).trans (hfh i (by omega) hi2)
      refine X_iload_n (pc := 55) 0 dX11_is_55 rfl rfl ?_
      refine X_if_lt (pc := 56) 114 dX11_is_56 (by decide) (fun c_56 => ?_) (fun c_56 => ?_)
      · exact absurd c_56 (nI_pos (by omega))
      · skip
        refine X_aload_n (pc := 59) 1 dX11_is_59 rfl rfl ?_
        refine X_getfield (pc := 60) dX11_is_60 fg_X11_15_12 cO (by first | rfl | assumption) ?_
        refine X_iload_n (pc := 63) 0 dX11_is_63 rfl rfl ?_
        refine X_aload_n (pc := 64) 1 dX11_is_64 rfl rfl ?_
        refine X_getfield (pc := 65) dX11_is_65 fg_X11_9_12 cO (by first | rfl | assumption) ?_
        refine X_iload_n (pc := 68) 0 dX11_is_68 rfl rfl ?_
        refine X_iaload (pc := 69) dX11_is_69 cm bk ?_
        refine X_aload_n (pc := 70) 1 dX11_is_70 rfl rfl ?_
        refine X_getfield (pc := 71) dX11_is_71 fg_X11_28_12 cO (by first | rfl | assumption) ?_
        refine X_ishl (pc := 74) dX11_is_74 ?_
        refine X_aload_n (pc := 75) 1 dX11_is_75 rfl rfl ?_
        refine X_getfield (pc := 76) dX11_is_76 fg_X11_28_12 cO (by first | rfl | assumption) ?_
        rw [ck]
        by_cases s0 : s = 0
        · refine X_if_le (pc := 79) 105 dX11_is_79 (by decide) (fun _ => ?_) (fun c => absurd ((nle0 (by omega)).mpr s0) c)
          refine X_iconst (pc := 105) (x := 0) dX11_is_105 (by decide) ?_
          refine fin 0 ?_
          unfold upS
          rw [if_pos s0]
          split <;> rfl
        · refine X_if_le (pc := 79) 105 dX11_is_79 (by decide) (fun c => absurd ((nle0 (by omega)).mp c) s0) (fun _ => ?_)
          refine X_iload_n (pc := 82) 0 dX11_is_82 rfl rfl ?_
          by_cases z0 : k = 0
          · refine X_if_le (pc := 83) 105 dX11_is_83 (by decide) (fun _ => ?_) (fun c => absurd ((nle0 (by omega)).mpr z0) c)
            refine X_iconst (pc := 105) (x := 0) dX11_is_105 (by decide) ?_
            exact fin 0 (by rw [if_pos z0])
          · refine X_if_le (pc := 83) 105 dX11_is_83 (by decide) (fun c => absurd ((nle0 (by omega)).mp c) z0) (fun _ => ?_)
            have ek : nI k - 1 = nI (k - 1) := by rw [show k = k - 1 + 1 by omega, nI_pred, Nat.add_sub_cancel]
            have bk1 : vp_in (nI (k - 1)) 64 := vp_in_nI (by omega) (by omega)
            have ck1 : (nI (k - 1)).toNatClampNeg = k - 1 := nI_clamp (by omega)
            refine X_aload_n (pc := 86) 1 dX11_is_86 rfl rfl ?_
            refine X_getfield (pc := 87) dX11_is_87 fg_X11_9_12 cO (by first | rfl | assumption) ?_
            refine X_iload_n (pc := 90) 0 dX11_is_90 rfl rfl ?_
            refine X_iconst (pc := 91) (x := 1) dX11_is_91 (by decide) ?_
            refine X_isub (pc := 92) dX11_is_92 ?_
            rw [ek]
            refine X_iaload (pc := 93) dX11_is_93 cm bk1 ?_
            refine X_bipush (pc := 94) (x := 32) dX11_is_94 (by decide) ?_
            refine X_aload_n (pc := 96) 1 dX11_is_96 rfl rfl ?_
            refine X_getfield (pc := 97) dX11_is_97 fg_X11_28_12 cO (by first | rfl | assumption) ?_
            refine X_isub (pc := 100) dX11_is_100 ?_
            rw [ck1, i32s (by omega)]
            refine X_iushr (pc := 101) dX11_is_101 ?_
            refine X_goto (pc := 102) 106 dX11_is_102 (by decide) ?_
            refine fin _ ?_
            unfold upS
            rw [if_neg z0, if_neg s0]
  -- the row itself
  have loop1 : ∀ m i, i + m = n → ∀ fm h', (∀ q, q < i → fm q = fa q) → MW A X R (up I (510 + j) fm) S F1 h' → h' a = some (Ai ra 0 na fa) →
      XX g MX11_is ({ frames := 1, cells := 0, slots := 0, locals := 21 } : Room) Post 0 0 7 [(3, .int (nI i)), (0, .ref (A (500 + j))), (1, .ref a), (2, .int (nI n))] [] h' := by
    intro m
    induction m with
    | zero =>
      intro i hi fm h' hfm w' ha'
      have e : i = n := by omega
      subst e
      have cO := w'.md h1 h2
      rw [q540] at cO
      have cm : h' (A (510 + j)) = some (Ai false 0 64 fm) := by
        have := w'.i (510 + j) k2
        rwa [up_same] at this
      have ei : nI i - 1 = nI (i - 1) := by rw [show i = i - 1 + 1 by omega, nI_pred, Nat.add_sub_cancel]
      have bi : vp_in (nI (i - 1)) 64 := vp_in_nI (by omega) (by omega)
      have ci : (nI (i - 1)).toNatClampNeg = i - 1 := nI_clamp (by omega)
      refine X_iload_n (pc := 7) 0 dX11_is_7 rfl rfl ?_
      refine X_aload_n (pc := 8) 1 dX11_is_8 rfl rfl ?_
      refine X_getfield (pc := 9) dX11_is_9 fg_X11_18_12 cO (by first | rfl | assumption) ?_
      refine X_cge (pc := 12) 30 dX11_is_12 (by decide) (by omega) (by omega) (fun _ => ?_) (fun c => absurd c (by omega))
      refine X_aload_n (pc := 30) 1 dX11_is_30 rfl rfl ?_
      refine X_aload_n (pc := 31) 1 dX11_is_31 rfl rfl ?_
      refine X_getfield (pc := 32) dX11_is_32 fg_X11_9_12 cO (by first | rfl | assumption) ?_
      refine X_aload_n (pc := 35) 1 dX11_is_35 rfl rfl ?_
      refine X_getfield (pc := 36) dX11_is_36 fg_X11_18_12 cO (by first | rfl | assumption) ?_
      refine X_iconst (pc := 39) (x := 1) dX11_is_39 (by decide) ?_
      refine X_isub (pc := 40) dX11_is_40 ?_
      rw [ei]
      refine X_iaload (pc := 41) dX11_is_41 cm bi ?_
      rw [ci, hfm (i - 1) (by omega), ← ofNat_u32 (fa (i - 1))]
      refine X_isi (pc := 42) _ dX11_is_42 cs_X11_22 rfl (nlz_ok g h' (Nat.pos_of_ne_zero htop) (u32_lt _)) nJ4_numberOfLeadingZeros (Nat.le_of_ble_eq_true rfl) (Nat.le_of_ble_eq_true rfl) (Nat.le_of_ble_eq_true rfl) (Nat.le_of_ble_eq_true rfl) (fun r h3 q3 => ?_)
      obtain ⟨rfl, s, hs, rfl, t1, t2⟩ := q3
      refine X_putfield (pc := 45) dX11_is_45 fp_X11_28_12 (fun e => by cases e) cO rfl rfl (Nat.le_of_ble_eq_true rfl) ?_
      have w2 := w'.setFs h1 h2 (v := nI s)
      rw [q540] at w2
      have cO2 := hset_self h3 (A (500 + j)) (Ob 12 [.ref (A (510 + j)), .ref (A (520 + j)), .int (nI i), .int (nI s)])
      refine XX.eqh (h' := hset h3 (A (500 + j)) (Ob 12 [.ref (A (510 + j)), .ref (A (520 + j)), .int (nI i), .int (nI s)])) rfl ?_
      generalize hset h3 (A (500 + j)) (Ob 12 [.ref (A (510 + j)), .ref (A (520 + j)), .int (nI i), .int (nI s)]) = h4 at *
      have w3 : MW A X R (up (up I (510 + j) fm) (520 + j) (up I (510 + j) fm (520 + j))) S (up F1 (550 + j) (nI s)) h4 := by rw [up_id]; exact w2
      refine X_aload_n (pc := 48) 1 dX11_is_48 rfl rfl ?_
      refine X_getfield (pc := 49) dX11_is_49 fg_X11_18_12 cO2 (by first | rfl | assumption) ?_
      refine X_iconst (pc := 52) (x := 1) dX11_is_52 (by decide) ?_
      refine X_isub (pc := 53) dX11_is_53 ?_
      refine X_istore_n (pc := 54) (L' := [(3, .int _), (0, .ref _), (1, .ref _), (2, .int _)]) dX11_is_54 rfl (Nat.le_of_ble_eq_true rfl) rfl ?_
      exact loop2 fm s hfm hs t1 t2 i (Nat.le_refl _) _ h4 (fun q a1 a2 => absurd a1 (by omega)) w3
    | succ m ih =>
      intro i hi fm h' hfm w' ha'
      have cO := w'.md h1 h2
      rw [q540] at cO
      have cm : h' (A (510 + j)) = some (Ai false 0 64 fm) := by
        have := w'.i (510 + j) k2
        rwa [up_same] at this
      have bi : vp_in (nI i) 64 := vp_in_nI (by omega) (by omega)
      have bi2 : vp_in (nI i) na := vp_in_nI (by omega) (by omega)
      have ci : (nI i).toNatClampNeg = i := nI_clamp (by omega)
      refine X_iload_n (pc := 7) 0 dX11_is_7 rfl rfl ?_
      refine X_aload_n (pc := 8) 1 dX11_is_8 rfl rfl ?_
      refine X_getfield (pc := 9) dX11_is_9 fg_X11_18_12 cO (by first | rfl | assumption) ?_
      refine X_cge (pc := 12) 30 dX11_is_12 (by decide) (by omega) (by omega) (fun c => absurd c (by omega)) (fun _ => ?_)
      refine X_aload_n (pc := 15) 1 dX11_is_15 rfl rfl ?_
      refine X_getfield (pc := 16) dX11_is_16 fg_X11_9_12 cO (by first | rfl | assumption) ?_
      refine X_iload_n (pc := 19) 0 dX11_is_19 rfl rfl ?_
      refine X_aload_n (pc := 20) 2 dX11_is_20 rfl rfl ?_
      refine X_iload_n (pc := 21) 0 dX11_is_21 rfl rfl ?_
      refine X_iaload (pc := 22) dX11_is_22 ha' bi2 ?_
      refine X_iastore (pc := 23) dX11_is_23 cm bi ?_
      rw [ci]
      have w2 := w'.setI (510 + j) k2 (upd fm i (fa i))
      rw [up_up'] at w2
      refine X_iinc (pc := 24) (L' := [(3, .int (_ + 1)), (0, .ref _), (1, .ref _), (2, .int _)]) 0 dX11_is_24 rfl rfl (Nat.le_of_ble_eq_true rfl) rfl ?_
      refine X_goto (pc := 27) 7 dX11_is_27 (by decide) ?_
      rw [show nI i + 1 = nI (i + 1) from nI_add i 1]
      refine ih (i + 1) (by omega) _ _ (fun q hq => ?_) w2 (by rw [hset_ne e1]; exact ha')
      by_cases e : q = i
      · rw [e, upd_at]
      · exact (if_neg e).trans (hfm q (by omega))
  refine X_iconst (pc := 5) (x := 0) dX11_is_5 (by decide) ?_
  refine X_istore_n (pc := 6) (L' := [(3, .int _), (0, .ref _), (1, .ref _), (2, .int _)]) dX11_is_6 rfl (Nat.le_of_ble_eq_true rfl) rfl ?_
  have w1' : MW A X R (up I (510 + j) (I (510 + j))) S F1 hh := by rw [up_id]; exact w1
  exact loop1 n 0 (by omega) _ hh (fun q hq => absurd hq (by omega)) w1' ha1
def btN (n s : Nat) : Nat := 32 * n - s
def esz (b : Nat) : Nat := (b - 1 + 7) / 8
def clr (b : Nat) : Nat := 255 / 2 ^ (8 * esz b - (b - 1))
theorem bits_ok (g : GX) {M n s : Nat} {x y : Value} (hM : h M = some (Ob 12 [x, y, .int (nI n), .int (nI s)])) (hs : s < 32 * n) :
    MT g MX11_bits ({ frames := 0, cells := 0, slots := 0, locals := 0 } : Room) [.ref M] h (RI fun r h' => r = nI (btN n s) ∧ h' = h) := by
  refine MT.of (by decide) (Nat.le_of_ble_eq_true rfl) ?_
  refine X_bipush (pc := 0) (x := 32) dX11_bits_0 (by decide) ?_
  refine X_aload_n (pc := 2) 0 dX11_bits_2 rfl rfl ?_
  refine X_getfield (pc := 3) dX11_bits_3 fg_X11_18_12 hM (by first | rfl | assumption) ?_
  refine X_imul (pc := 6) dX11_bits_6 ?_
  refine X_aload_n (pc := 7) 0 dX11_bits_7 rfl rfl ?_
  refine X_getfield (pc := 8) dX11_bits_8 fg_X11_28_12 hM (by first | rfl | assumption) ?_
  refine X_isub (pc := 11) dX11_bits_11 ?_
  rw [show (32 : Int32) * nI n = nI (32 * n) from pk_mul 32 n, pk_sub (by omega)]
  refine X_ireturn (pc := 12) dX11_bits_12 rfl (Nat.le_of_ble_eq_true rfl) (Nat.le_of_ble_eq_true rfl) ?_
  exact ⟨_, rfl, rfl, rfl⟩
theorem esz_ok (g : GX) {M n s : Nat} {x y : Value} (hM : h M = some (Ob 12 [x, y, .int (nI n), .int (nI s)])) (hs : s < 32 * n) (hn : n ≤ 64) :
    MT g MX10_encodedSize ({ frames := 1, cells := 0, slots := 0, locals := 20 } : Room) [.ref M] h (RI fun r h' => r = nI (esz (btN n s)) ∧ h' = h) := by
  refine MT.of (by decide) (Nat.le_of_ble_eq_true rfl) ?_
  have hb : 0 < btN n s ∧ btN n s < 4000 := by unfold btN; omega
  refine X_aload_n (pc := 0) 0 dX10_encodedSize_0 rfl rfl ?_
  refine X_ivi (pc := 1) _ dX10_encodedSize_1 cv_X10_585_12 hM rfl (bits_ok g hM hs) nX11_bits (Nat.le_of_ble_eq_true rfl) (Nat.le_of_ble_eq_true rfl) (Nat.le_of_ble_eq_true rfl) (Nat.le_of_ble_eq_true rfl) (fun r1 h1 q1 => ?_)
  obtain ⟨rfl, rfl⟩ := q1
  refine X_iconst (pc := 4) (x := 1) dX10_encodedSize_4 (by decide) ?_
  refine X_isub (pc := 5) dX10_encodedSize_5 ?_
  refine X_bipush (pc := 6) (x := 7) dX10_encodedSize_6 (by decide) ?_
  refine X_iadd (pc := 8) dX10_encodedSize_8 ?_
  refine X_bipush (pc := 9) (x := 8) dX10_encodedSize_9 (by decide) ?_
  rw [show nI (btN n s) - 1 = nI (btN n s - 1) from by rw [show btN n s = btN n s - 1 + 1 by omega, nI_pred, Nat.add_sub_cancel], show nI (btN n s - 1) + 7 = nI (btN n s - 1 + 7) from nI_add _ 7]
  refine X_idiv (pc := 11) dX10_encodedSize_11 (by decide) ?_
  rw [show nI (btN n s - 1 + 7) / 8 = nI ((btN n s - 1 + 7) / 8) from pk_div (d := 8) (by omega) (by decide) (by decide)]
  refine X_ireturn (pc := 12) dX10_encodedSize_12 rfl (Nat.le_of_ble_eq_true rfl) (Nat.le_of_ble_eq_true rfl) ?_
  exact ⟨_, rfl, rfl, rfl⟩
theorem clr_ok (g : GX) {M n s : Nat} {x y : Value} (hM : h M = some (Ob 12 [x, y, .int (nI n), .int (nI s)])) (hs : s < 32 * n) (hn : n ≤ 64) :
    MT g MX10_clear ({ frames := 2, cells := 0, slots := 0, locals := 40 } : Room) [.ref M] h (RI fun r h' => r = nI (clr (btN n s)) ∧ h' = h) := by
  refine MT.of (by decide) (Nat.le_of_ble_eq_true rfl) ?_
  have hb : 0 < btN n s ∧ btN n s < 4000 := by unfold btN; omega
  have hz : btN n s - 1 ≤ 8 * esz (btN n s) ∧ 8 * esz (btN n s) - (btN n s - 1) < 32 := by unfold esz; omega
  refine X_sipush (pc := 0) (x := 255) dX10_clear_0 (by decide) ?_
  refine X_bipush (pc := 3) (x := 8) dX10_clear_3 (by decide) ?_
  refine X_aload_n (pc := 5) 0 dX10_clear_5 rfl rfl ?_
  refine X_isi (pc := 6) _ dX10_clear_6 cs_X10_588 rfl (esz_ok g hM hs hn) nX10_encodedSize (Nat.le_of_ble_eq_true rfl) (Nat.le_of_ble_eq_true rfl) (Nat.le_of_ble_eq_true rfl) (Nat.le_of_ble_eq_true rfl) (fun r1 h1 q1 => ?_)
  obtain ⟨rfl, rfl⟩ := q1
  refine X_imul (pc := 9) dX10_clear_9 ?_
  refine X_aload_n (pc := 10) 0 dX10_clear_10 rfl rfl ?_
  refine X_ivi (pc := 11) _ dX10_clear_11 cv_X10_585_12 hM rfl (bits_ok g hM hs) nX11_bits (Nat.le_of_ble_eq_true rfl) (Nat.le_of_ble_eq_true rfl) (Nat.le_of_ble_eq_true rfl) (Nat.le_of_ble_eq_true rfl) (fun r1 h1 q1 => ?_)
  obtain ⟨rfl, rfl⟩ := q1
  refine X_iconst (pc := 14) (x := 1) dX10_clear_14 (by decide) ?_
  refine X_isub (pc := 15) dX10_clear_15 ?_
  refine X_isub (pc := 16) dX10_clear_16 ?_
  rw [show (8 : Int32) * nI (esz (btN n s)) = nI (8 * esz (btN n s)) from pk_mul 8 _, show nI (btN n s) - 1 = nI (btN n s - 1) from by rw [show btN n s = btN n s - 1 + 1 by omega, nI_pred, Nat.add_sub_cancel], pk_sub hz.1]
  refine X_ishr (pc := 17) dX10_clear_17 ?_
  rw [show (255 : Int32) >>> (nI (8 * esz (btN n s) - (btN n s - 1)) &&& 31) = nI (255 / 2 ^ (8 * esz (btN n s) - (btN n s - 1))) from pk_shrN (n := 255) (by decide) _ _ (sl_n _ hz.2)]
  refine X_ireturn (pc := 18) dX10_clear_18 rfl (Nat.le_of_ble_eq_true rfl) (Nat.le_of_ble_eq_true rfl) ?_
  exact ⟨_, rfl, rfl, rfl⟩
theorem mO66 : mO A F 66 = Ar 7 6 (fun j => some (A (502 + j))) := rfl
set_option maxHeartbeats 1000000 in
theorem byE_ok (g : GX) (w : MW A X R I S F h) {key n mv e a va k : Nat} (hkey : key < 6) (hm : MoS I F (2 + key) n mv) (hmv : 1 < mv) (hn : 0 < n ∧ n ≤ 64) (oa : OpM A h a n va) (a91 : a ≠ A 91) (he : I 67 key = nI e) (he2 : e < 2 ^ 17) (hk : kdM k = (3, 0, 64)) :
    MT g MX10_byE ({ frames := 5, cells := 0, slots := 0, locals := 138 } : Room) [.ref (A 96), .int (nI key), .ref a, .ref (A k)] h (RV fun h' => ∃ f, V n f = va ^ e % mv ∧ MW A X R (up I k f) S F h') := by
  refine MT.of (by decide) (Nat.le_of_ble_eq_true rfl) ?_
  have bk : vp_in (nI key) 6 := vp_in_nI (by omega) (by omega)
  have ck : (nI key).toNatClampNeg = key := nI_clamp (by omega)
  obtain ⟨f91, c91⟩ := w.j 91 rfl
  have b0 : vp_in (0 : Int32) 1 := vp_in_nI (n := 0) (by decide) (by decide)
  refine X_aload_n (pc := 0) 0 dX10_byE_0 rfl rfl ?_
  refine X_getfield (pc := 1) dX10_byE_1 fg_X10_558_11 (MW.ob w) mf_91 ?_
  refine X_iconst (pc := 4) (x := 0) dX10_byE_4 (by decide) ?_
  refine X_aload_n (pc := 5) 0 dX10_byE_5 rfl rfl ?_
  refine X_getfield (pc := 6) dX10_byE_6 fg_X10_507_11 (MW.ob w) mf_67 ?_
  refine X_iload_n (pc := 9) 1 dX10_byE_9 rfl rfl ?_
  refine X_iaload (pc := 10) dX10_byE_10 (w.i 67 rfl) bk ?_
  refine X_iastore (pc := 11) dX10_byE_11 c91 b0 ?_
  rw [ck, he]
  have w1 := w.setJ 91 rfl (upd f91 0 (nI e))
  refine XX.eqh (h' := hset h (A 91) (Ai false 0 1 (upd f91 0 (nI e)))) rfl ?_
  have c91' := hset_self h (A 91) (Ai false 0 1 (upd f91 0 (nI e)))
  have oa1 : OpM A (hset h (A 91) (Ai false 0 1 (upd f91 0 (nI e)))) a n va := by
    obtain ⟨ra, na, fa, z1, z2⟩ := oa
    exact ⟨ra, na, fa, by rw [hset_ne a91]; exact z1, z2⟩
  have ok1 : (hset h (A 91) (Ai false 0 1 (upd f91 0 (nI e)))) (A k) = some (Ai false 0 64 (I k)) := w1.i k hk
  generalize hset h (A 91) (Ai false 0 1 (upd f91 0 (nI e))) = h1 at *
  have hV : V 1 (upd f91 0 (nI e)) = e := by
    show 0 + u32 (nI e) * 2 ^ (32 * 0) = e
    rw [show u32 (nI e) = e from pk_tn (by omega)]
    omega
  have hk1 : (kdM k).1 ≠ 0 := by rw [hk]; decide
  have s1 := w1.sc (k := 91) (by decide) (by decide)
  have s2 := w1.sc (k := k) hk1 (scr_k hk (by decide))
  refine X_aload_n (pc := 12) 0 dX10_byE_12 rfl rfl ?_
  refine X_aload_n (pc := 13) 0 dX10_byE_13 rfl rfl ?_
  refine X_getfield (pc := 14) dX10_byE_14 fg_X10_503_11 (MW.ob w1) mf_66 ?_
  refine X_iload_n (pc := 17) 1 dX10_byE_17 rfl rfl ?_
  refine X_aaload (pc := 18) dX10_byE_18 (w1.o 66 rfl) (fun _ => rfl) bk ?_
  refine X_aload_n (pc := 19) 2 dX10_byE_19 rfl rfl ?_
  refine X_aload_n (pc := 20) 0 dX10_byE_20 rfl rfl ?_
  refine X_getfield (pc := 21) dX10_byE_21 fg_X10_558_11 (MW.ob w1) mf_91 ?_
  refine X_bipush (pc := 24) (x := 17) dX10_byE_24 (by decide) ?_
  refine X_aload_n (pc := 26) 3 dX10_byE_26 rfl rfl ?_
  rw [ck]
  show XX g MX10_byE _ _ 0 0 27 _ [.ref (A k), .int 17, .ref (A 91), .ref a, .ref (A (502 + key)), .ref (A 96)] h1
  rw [show 502 + key = 500 + (2 + key) by omega]
  refine X_ivv (pc := 27) _ dX10_byE_27 cv_X10_213_11 (MW.ob w1) rfl (power_ok g w1 (j := 2 + key) (N := 1) (bits := 17) hm hmv hn oa1 c91' (by decide) (by decide) (by decide) (by decide) hV he2 ⟨s1.1.1, s1.1.2.1, s1.1.2.2⟩ ok1 hn.2 (by decide) ⟨s2.1.1, s2.1.2.1, s2.1.2.2⟩) nX10_power (Nat.le_of_ble_eq_true rfl) (Nat.le_of_ble_eq_true rfl) (Nat.le_of_ble_eq_true rfl) (Nat.le_of_ble_eq_true rfl) (fun h2 q2 => ?_)
  obtain ⟨h3, f, w3, -, hv, -, rfl⟩ := q2
  refine X_return (pc := 30) dX10_byE_30 rfl (Nat.le_of_ble_eq_true rfl) (Nat.le_of_ble_eq_true rfl) ?_
  exact ⟨rfl, f, hv, w3.setI k hk f⟩
end MMd
