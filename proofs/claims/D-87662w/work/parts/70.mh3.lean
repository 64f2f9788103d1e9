set_option maxRecDepth 100000
/-! the long digest whole -/
theorem up_comm {α : Type} (f : Nat → α) {k j : Nat} (x y : α) (h : k ≠ j) : up (up f k x) j y = up (up f j y) k x := by
  funext i
  unfold up
  by_cases e : i = j
  · rw [if_pos e, if_neg (fun z => h (z.symm.trans e)), if_pos e]
  · rw [if_neg e, if_neg e]
theorem IsWide.uniq {m : Nat → Int32} {a n : Nat} {f f' : Nat → Int64} (h : IsWide m a n f) (h' : IsWide m a n f') : ∀ i, i < n → f i = f' i := by
  intro i
  induction i using Nat.strongRecOn with
  | _ i ih =>
    intro hi
    obtain ⟨a1, a2⟩ := h i hi
    obtain ⟨b1, b2⟩ := h' i hi
    by_cases c : i < 16
    · rw [a1 c, b1 c]
    · rw [a2 (by omega), b2 (by omega), ih (i - 16) (by omega) (by omega), ih (i - 7) (by omega) (by omega), ih (i - 15) (by omega) (by omega), ih (i - 2) (by omega) (by omega)]
theorem IsWide.ex (m : Nat → Int32) (a n : Nat) : ∃ f, IsWide m a n f := by
  induction n with
  | zero => exact ⟨fun _ => 0, fun i hi => absurd hi (by omega)⟩
  | succ n ih =>
    obtain ⟨f, hf⟩ := ih
    by_cases c : n < 16
    · exact ⟨_, hf.snoc (fun _ => rfl) (fun h => absurd h (by omega))⟩
    · exact ⟨_, hf.snoc (fun h => absurd h c) (fun _ => rfl)⟩
noncomputable def wsch (m : Nat → Int32) (a : Nat) : Nat → Int64 := Classical.choose (IsWide.ex m a 80)
theorem wsch_ok (m : Nat → Int32) (a : Nat) : IsWide m a 80 (wsch m a) := Classical.choose_spec (IsWide.ex m a 80)
/-- the chain of the long digest behind b blocks -/
noncomputable def chL (m : Nat → Int32) : Nat → Nat → Int64
  | 0 => fun j => tF384.getD j 0
  | b + 1 => cmpL (rnLs (fun j => t512.getD j 0) (wsch m (128 * b)) (chL m b) 80) (chL m b)
theorem rnL_cg {s s' : Nat → Int64} {k w : Int64} (hs : ∀ j, j < 8 → s j = s' j) (j : Nat) (hj : j < 8) : rnL s k w j = rnL s' k w j := by
  have h0 := hs 0 (by decide)
  have h1 := hs 1 (by decide)
  have h2 := hs 2 (by decide)
  have h3 := hs 3 (by decide)
  have h4 := hs 4 (by decide)
  have h5 := hs 5 (by decide)
  have h6 := hs 6 (by decide)
  have h7 := hs 7 (by decide)
  have c : j = 0 ∨ j = 1 ∨ j = 2 ∨ j = 3 ∨ j = 4 ∨ j = 5 ∨ j = 6 ∨ j = 7 := by omega
  rcases c with rfl | rfl | rfl | rfl | rfl | rfl | rfl | rfl <;> simp only [rnL, rnL1, rnL2, h0, h1, h2, h3, h4, h5, h6, h7]
theorem rnLs_cg {K W W' s s' : Nat → Int64} (hs : ∀ j, j < 8 → s j = s' j) : ∀ n, (∀ i, i < n → W i = W' i) → ∀ j, j < 8 → rnLs K W s n j = rnLs K W' s' n j := by
  intro n
  induction n with
  | zero => intro _; exact hs
  | succ n ih =>
    intro hW j hj
    show rnL (rnLs K W s n) (K n) (W n) j = rnL (rnLs K W' s' n) (K n) (W' n) j
    rw [hW n (by omega)]
    exact rnL_cg (ih fun i hi => hW i (by omega)) j hj
theorem cmpL_step {m : Nat → Int32} {b : Nat} {f fc : Nat → Int64} (hf : IsWide m (128 * b) 80 f) (hc : ∀ j, j < 8 → fc j = chL m b j) (j : Nat) (hj : j < 8) : cmpL (rnLs (fun j => t512.getD j 0) f fc 80) fc j = chL m (b + 1) j := by
  show cmpL _ _ j = cmpL _ _ j
  unfold cmpL
  rw [if_pos hj, if_pos hj, hc j hj, rnLs_cg hc 80 (hf.uniq (wsch_ok m (128 * b))) j hj]
/-- byte i of a chain -/
def dgL (c : Nat → Int64) (i : Nat) : Int32 := ((c (i / 8)) >>> ((nI (56 - 8 * (i % 8))).toInt64 &&& 63)).toInt32.toInt8.toInt32
noncomputable def sha384 (l : List Int32) : List Int32 := (List.range 48).map (dgL (chL (fun j => (l ++ padL l.length 128 16).getD j 0) ((l ++ padL l.length 128 16).length / 128)))
theorem sha384_len (l : List Int32) : (sha384 l).length = 48 := by unfold sha384; rw [List.length_map, List.length_range]
theorem pad_len (l : List Int32) (blk sz : Nat) : (l ++ padL l.length blk sz).length = l.length + 1 + padZ l.length blk sz + sz := by
  rw [List.length_append]
  unfold padL
  rw [List.length_cons, List.length_append, List.length_replicate, List.length_map, List.length_range]
  omega
theorem pad_mod128 (n : Nat) : (n + 1 + padZ n 128 16 + 16) % 128 = 0 := by unfold padZ; omega
theorem pad_mod64 (n : Nat) : (n + 1 + padZ n 64 8 + 8) % 64 = 0 := by unfold padZ; omega
theorem padZ_lt (n blk sz : Nat) (h : 0 < blk) : padZ n blk sz < blk := Nat.mod_lt _ h
section MH3
variable {A : Nat → Nat} {X : AH} {R : Nat → Nat} {I : Nat → Nat → Int32} {S : Nat → List Int32} {F : Nat → Int32} {h : AH} {l : List Int32}
theorem MW.cutS (w : MW A X R I S F h) (k : Nat) {t n : Nat} (hk : kdM k = (6, t, n)) : MW A X R I (up S k []) F h := by
  obtain ⟨f, c1, c2, -⟩ := w.s k hk
  have := w.setS k hk (l := []) (f := f) (fun j hj => absurd hj (Nat.not_lt_zero _)) (Nat.zero_le _)
  rw [hset_same c1] at this
  exact this
set_option maxHeartbeats 2000000 in
theorem h3_ok (g : GX) (w : SW A X R I S F l h) (hl : l.length + 144 ≤ 2600) :
    MT g MX10_h3 ({ frames := 2, cells := 0, slots := 0, locals := 64 } : Room) [.ref (A 96)] h (RV fun h' => SW A X R I (up S 27 (sha384 l)) F [] h') := by
  refine MT.of (by decide) (Nat.le_of_ble_eq_true rfl) ?_
  generalize hPost : (RV fun h' => SW A X R I (up S 27 (sha384 l)) F [] h') = Post
  refine X_aload_n (pc := 0) 0 dX10_h3_0 rfl rfl ?_
  refine X_sipush (pc := 1) (x := 128) dX10_h3_1 (by decide) ?_
  refine X_bipush (pc := 4) (x := 16) dX10_h3_4 (by decide) ?_
  refine X_ivv (pc := 6) _ dX10_h3_6 cv_X10_270_11 (MW.ob w) rfl (pads_ok g w (blk := 128) (sz := 16) (Or.inr ⟨rfl, rfl⟩) (by omega)) nX10_pads (Nat.le_of_ble_eq_true rfl) (Nat.le_of_ble_eq_true rfl) (Nat.le_of_ble_eq_true rfl) (Nat.le_of_ble_eq_true rfl) (fun h1 q1 => ?_)
  have hpl := pad_len l 128 16
  have hpm := pad_mod128 l.length
  have hpz := padZ_lt l.length 128 16 (by decide)
  have hsd : sha384 l = (List.range 48).map (dgL (chL (fun j => (l ++ padL l.length 128 16).getD j 0) ((l ++ padL l.length 128 16).length / 128))) := rfl
  generalize hP : l ++ padL l.length 128 16 = P at *
  have hPl : P.length ≤ 2600 := by omega
  have hPm : P.length % 128 = 0 := by omega
  have q1 : MW A X R I (up S 25 P) (up F 26 (nI P.length)) h1 := q1
  have loop3 : ∀ (fc : Nat → Int64), (∀ j, j < 8 → fc j = chL (fun j => P.getD j 0) (P.length / 128) j) → ∀ m i, i + m = 48 → ∀ h',
      MW A X R I (up (up S 25 P) 27 ((List.range i).map (dgL (chL (fun j => P.getD j 0) (P.length / 128))))) (up F 26 (nI P.length)) h' → h' (A 30) = some (Al false 8 fc) →
      XX g MX10_h3 ({ frames := 2, cells := 0, slots := 0, locals := 64 } : Room) Post 0 0 60 [(1, .int (nI i)), (0, .ref (A 96))] [] h' := by
    intro fc hfc m
    induction m with
    | zero =>
      intro i hi h' w' c'
      have e : i = 48 := by omega
      subst e
      refine X_iload_n (pc := 60) 0 dX10_h3_60 rfl rfl ?_
      refine X_bipush (pc := 61) (x := 48) dX10_h3_61 (by decide) ?_
      refine X_cge (a := 48) (b := 48) (pc := 63) 100 dX10_h3_63 (by decide) (by omega) (by omega) (fun _ => ?_) (fun c => absurd c (by omega))
      refine X_aload_n (pc := 100) 1 dX10_h3_100 rfl rfl ?_
      refine X_iconst (pc := 101) (x := 0) dX10_h3_101 (by decide) ?_
      refine X_putfield (pc := 102) dX10_h3_102 fp_X10_243_11 (fun e => by cases e) (MW.ob w') rfl rfl (Nat.le_of_ble_eq_true rfl) ?_
      have w2 := (w'.setF26 (v := 0)).cutS 25 rfl
      rw [up_up', up_comm S _ _ (show 25 ≠ 27 by decide), up_up', ← hsd] at w2
      subst hPost
      refine X_return (pc := 105) dX10_h3_105 rfl (Nat.le_of_ble_eq_true rfl) (Nat.le_of_ble_eq_true rfl) ?_
      exact ⟨rfl, w2⟩
    | succ m ih =>
      intro i hi h' w' c'
      have ci : (nI i).toNatClampNeg = i := nI_clamp (by omega)
      have b1 : vp_in (nI i) 48 := vp_in_nI (by omega) (by omega)
      have ci8 : (nI (i / 8)).toNatClampNeg = i / 8 := nI_clamp (by omega)
      have b8 : vp_in (nI (i / 8)) 8 := vp_in_nI (by omega) (by omega)
      obtain ⟨fd, d1, d2, d3⟩ := w'.s 27 rfl
      rw [up_same] at d2
      have hli : ((List.range i).map (dgL (chL (fun j => P.getD j 0) (P.length / 128)))).length = i := by rw [List.length_map, List.length_range]
      refine X_iload_n (pc := 60) 0 dX10_h3_60 rfl rfl ?_
      refine X_bipush (pc := 61) (x := 48) dX10_h3_61 (by decide) ?_
      refine X_cge (b := 48) (pc := 63) 100 dX10_h3_63 (by decide) (by omega) (by omega) (fun c => absurd c (by omega)) (fun _ => ?_)
      refine X_aload_n (pc := 66) 1 dX10_h3_66 rfl rfl ?_
      refine X_getfield (pc := 67) dX10_h3_67 fg_X10_283_11 (MW.ob w') mf_27 ?_
      refine X_iload_n (pc := 70) 0 dX10_h3_70 rfl rfl ?_
      refine X_aload_n (pc := 71) 1 dX10_h3_71 rfl rfl ?_
      refine X_getfield (pc := 72) dX10_h3_72 fg_X10_296_11 (MW.ob w') mf_30 ?_
      refine X_iload_n (pc := 75) 0 dX10_h3_75 rfl rfl ?_
      refine X_bipush (pc := 76) (x := 8) dX10_h3_76 (by decide) ?_
      refine X_idiv (pc := 78) dX10_h3_78 (show ¬ (8 : Int32) = 0 by decide) ?_
      rw [show nI i / 8 = nI (i / 8) from pk_div (d := 8) (by omega) (by decide) (by decide)]
      refine X_laload (pc := 79) dX10_h3_79 c' b8 ?_
      refine X_bipush (pc := 80) (x := 56) dX10_h3_80 (by decide) ?_
      refine X_bipush (pc := 82) (x := 8) dX10_h3_82 (by decide) ?_
      refine X_iload_n (pc := 84) 0 dX10_h3_84 rfl rfl ?_
      refine X_bipush (pc := 85) (x := 8) dX10_h3_85 (by decide) ?_
      refine X_irem (pc := 87) dX10_h3_87 (show ¬ (8 : Int32) = 0 by decide) ?_
      rw [ci8, show nI i - nI i / 8 * 8 = nI (i % 8) from pk_rem (d := 8) (by omega) (by decide) (by decide)]
      refine X_imul (pc := 88) dX10_h3_88 ?_
      refine X_isub (pc := 89) dX10_h3_89 ?_
      rw [show (8 : Int32) * nI (i % 8) = nI (8 * (i % 8)) from pk_mul 8 _, show (56 : Int32) - nI (8 * (i % 8)) = nI (56 - 8 * (i % 8)) from pk_sub (a := 56) (by omega)]
      refine X_lshr (pc := 90) dX10_h3_90 ?_
      refine X_l2i (pc := 91) dX10_h3_91 ?_
      refine X_i2b (pc := 92) dX10_h3_92 ?_
      refine X_bastore (pc := 93) dX10_h3_93 d1 b1 ?_
      rw [ci, Int8.toInt8_toInt32, hfc (i / 8) (by omega)]
      have w2 := w'.setS 27 rfl (PL_snoc (x := dgL (chL (fun j => P.getD j 0) (P.length / 128)) i) d2) (by rw [List.length_append, hli]; exact (show i + 1 ≤ 48 by omega))
      rw [up_up', hli, ← List.map_singleton (f := dgL (chL (fun j => P.getD j 0) (P.length / 128))), ← List.map_append, ← List.range_succ] at w2
      have c2 : (hset h' (A 27) (Ai false 2 48 (upd fd i (dgL (chL (fun j => P.getD j 0) (P.length / 128)) i)))) (A 30) = some (Al false 8 fc) := by
        rw [hset_ne (w'.ne (by decide) (by decide) (by decide))]; exact c'
      refine X_iinc (pc := 94) (L' := [(1, .int (_ + 1)), (0, .ref _)]) 0 dX10_h3_94 rfl rfl (Nat.le_of_ble_eq_true rfl) rfl ?_
      refine X_goto (pc := 97) 60 dX10_h3_97 (by decide) ?_
      rw [show nI i + 1 = nI (i + 1) from nI_add i 1]
      exact ih (i + 1) (by omega) _ w2 c2
  have loop2 : ∀ m b, 128 * b + 128 * m = P.length → ∀ h' fc, MW A X R I (up S 25 P) (up F 26 (nI P.length)) h' → h' (A 30) = some (Al false 8 fc) → (∀ j, j < 8 → fc j = chL (fun j => P.getD j 0) b j) →
      XX g MX10_h3 ({ frames := 2, cells := 0, slots := 0, locals := 64 } : Room) Post 0 0 36 [(1, .int (nI (128 * b))), (0, .ref (A 96))] [] h' := by
    intro m
    induction m with
    | zero =>
      intro b hb h' fc w' c' hc
      have e : b = P.length / 128 := by omega
      refine X_iload_n (pc := 36) 0 dX10_h3_36 rfl rfl ?_
      refine X_aload_n (pc := 37) 1 dX10_h3_37 rfl rfl ?_
      refine X_getfield (pc := 38) dX10_h3_38 fg_X10_243_11 (MW.ob w') mf_26 ?_
      rw [up_same]
      refine X_cge (pc := 41) 58 dX10_h3_41 (by decide) (by omega) (by omega) (fun _ => ?_) (fun c => absurd c (by omega))
      refine X_iconst (pc := 58) (x := 0) dX10_h3_58 (by decide) ?_
      refine X_istore_n (pc := 59) (L' := [(1, .int _), (0, .ref _)]) dX10_h3_59 rfl (Nat.le_of_ble_eq_true rfl) rfl ?_
      rw [e] at hc
      exact loop3 fc hc 48 0 (by omega) h' (w'.cutS 27 rfl) c'
    | succ m ih =>
      intro b hb h' fc w' c' hc
      refine X_iload_n (pc := 36) 0 dX10_h3_36 rfl rfl ?_
      refine X_aload_n (pc := 37) 1 dX10_h3_37 rfl rfl ?_
      refine X_getfield (pc := 38) dX10_h3_38 fg_X10_243_11 (MW.ob w') mf_26 ?_
      rw [up_same]
      refine X_cge (pc := 41) 58 dX10_h3_41 (by decide) (by omega) (by omega) (fun c => absurd c (by omega)) (fun _ => ?_)
      refine X_aload_n (pc := 44) 1 dX10_h3_44 rfl rfl ?_
      refine X_iload_n (pc := 45) 0 dX10_h3_45 rfl rfl ?_
      refine X_ivv (pc := 46) _ dX10_h3_46 cv_X10_302_11 (MW.ob w') rfl (wblock_ok g w' (at' := 128 * b) (by rw [up_same]; omega) c') nX10_wideBlock (Nat.le_of_ble_eq_true rfl) (Nat.le_of_ble_eq_true rfl) (Nat.le_of_ble_eq_true rfl) (Nat.le_of_ble_eq_true rfl) (fun h2 q2 => ?_)
      obtain ⟨f, hf, rfl⟩ := q2
      rw [up_same] at hf
      refine X_iincW (pc := 49) (L' := [(1, .int (_ + 128)), (0, .ref _)]) 0 dX10_h3_49 rfl rfl (Nat.le_of_ble_eq_true rfl) rfl ?_
      refine X_goto (pc := 55) 36 dX10_h3_55 (by decide) ?_
      rw [show nI (128 * b) + 128 = nI (128 * (b + 1)) from nI_add (128 * b) 128]
      exact ih (b + 1) (by omega) _ _ ((w'.setL 31 rfl f).setL 30 rfl _) (hset_self _ _ _) (cmpL_step hf hc)
  obtain ⟨f30, c30⟩ := q1.l 30 rfl
  have loop1 : ∀ m i, i + m = 8 → ∀ f : Nat → Int64, (∀ j, j < i → f j = tF384.getD j 0) →
      XX g MX10_h3 ({ frames := 2, cells := 0, slots := 0, locals := 64 } : Room) Post 0 0 11 [(1, .int (nI i)), (0, .ref (A 96))] [] (hset h1 (A 30) (Al false 8 f)) := by
    intro m
    induction m with
    | zero =>
      intro i hi f hf
      have e : i = 8 := by omega
      subst e
      refine X_iload_n (pc := 11) 0 dX10_h3_11 rfl rfl ?_
      refine X_bipush (pc := 12) (x := 8) dX10_h3_12 (by decide) ?_
      refine X_cge (a := 8) (b := 8) (pc := 14) 34 dX10_h3_14 (by decide) (by omega) (by omega) (fun _ => ?_) (fun c => absurd c (by omega))
      refine X_iconst (pc := 34) (x := 0) dX10_h3_34 (by decide) ?_
      refine X_istore_n (pc := 35) (L' := [(1, .int _), (0, .ref _)]) dX10_h3_35 rfl (Nat.le_of_ble_eq_true rfl) rfl ?_
      exact loop2 (P.length / 128) 0 (by omega) _ f (q1.setL 30 rfl f) (hset_self _ _ _) hf
    | succ m ih =>
      intro i hi f hf
      have ci : (nI i).toNatClampNeg = i := nI_clamp (by omega)
      have b1 : vp_in (nI i) 8 := vp_in_nI (by omega) (by omega)
      have w1 := q1.setL 30 rfl f
      have c1 := hset_self h1 (A 30) (Al false 8 f)
      refine X_iload_n (pc := 11) 0 dX10_h3_11 rfl rfl ?_
      refine X_bipush (pc := 12) (x := 8) dX10_h3_12 (by decide) ?_
      refine X_cge (b := 8) (pc := 14) 34 dX10_h3_14 (by decide) (by omega) (by omega) (fun c => absurd c (by omega)) (fun _ => ?_)
      refine X_aload_n (pc := 17) 1 dX10_h3_17 rfl rfl ?_
      refine X_getfield (pc := 18) dX10_h3_18 fg_X10_296_11 (MW.ob w1) mf_30 ?_
      refine X_iload_n (pc := 21) 0 dX10_h3_21 rfl rfl ?_
      refine X_getstatic (pc := 22) (j := 11) dX10_h3_22 q1927 (fun _ => rfl) rfl (fun st_22 hs_22 => ?_)
      refine X_iload_n (pc := 25) 0 dX10_h3_25 rfl rfl ?_
      refine X_laload (pc := 26) dX10_h3_26 hs_22 b1 ?_
      refine X_lastore (pc := 27) dX10_h3_27 c1 b1 ?_
      refine X_iinc (pc := 28) (L' := [(1, .int (_ + 1)), (0, .ref _)]) 0 dX10_h3_28 rfl rfl (Nat.le_of_ble_eq_true rfl) rfl ?_
      refine X_goto (pc := 31) 11 dX10_h3_31 (by decide) ?_
      rw [ci, hset_hset, show nI i + 1 = nI (i + 1) from nI_add i 1]
      refine ih (i + 1) (by omega) _ (fun j hj => ?_)
      by_cases e : j = i
      · rw [e, updL_at]
      · rw [updL_ne e]; exact hf j (by omega)
  refine X_iconst (pc := 9) (x := 0) dX10_h3_9 (by decide) ?_
  refine X_istore_n (pc := 10) (L' := [(1, .int _), (0, .ref _)]) dX10_h3_10 rfl (Nat.le_of_ble_eq_true rfl) rfl ?_
  have := loop1 8 0 (by omega) f30 (fun j hj => absurd hj (by omega))
  rw [hset_same c30] at this
  exact this
end MH3
