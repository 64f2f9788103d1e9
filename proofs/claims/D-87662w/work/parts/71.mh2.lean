set_option maxRecDepth 100000
/-! the short digest whole -/
theorem IsSched.uniq {m : Nat → Int32} {a n : Nat} {f f' : Nat → Int32} (h : IsSched m a n f) (h' : IsSched m a n f') : ∀ i, i < n → f i = f' i := by
  intro i
  induction i using Nat.strongRecOn with
  | _ i ih =>
    intro hi
    obtain ⟨a1, a2⟩ := h i hi
    obtain ⟨b1, b2⟩ := h' i hi
    by_cases c : i < 16
    · rw [a1 c, b1 c]
    · rw [a2 (by omega), b2 (by omega), ih (i - 16) (by omega) (by omega), ih (i - 7) (by omega) (by omega), ih (i - 15) (by omega) (by omega), ih (i - 2) (by omega) (by omega)]
theorem IsSched.ex (m : Nat → Int32) (a n : Nat) : ∃ f, IsSched m a n f := by
  induction n with
  | zero => exact ⟨fun _ => 0, fun i hi => absurd hi (by omega)⟩
  | succ n ih =>
    obtain ⟨f, hf⟩ := ih
    by_cases c : n < 16
    · exact ⟨_, hf.snoc (fun _ => rfl) (fun h => absurd h (by omega))⟩
    · exact ⟨_, hf.snoc (fun h => absurd h c) (fun _ => rfl)⟩
noncomputable def ssch (m : Nat → Int32) (a : Nat) : Nat → Int32 := Classical.choose (IsSched.ex m a 64)
theorem ssch_ok (m : Nat → Int32) (a : Nat) : IsSched m a 64 (ssch m a) := Classical.choose_spec (IsSched.ex m a 64)
/-- the chain of the short digest behind b blocks -/
noncomputable def chF (m : Nat → Int32) : Nat → Nat → Int32
  | 0 => fun j => tS256.getD j 0
  | b + 1 => cmpF (rnds (fun j => t256.getD j 0) (ssch m (64 * b)) (chF m b) 64) (chF m b)
theorem rnd_cg {s s' : Nat → Int32} {k w : Int32} (hs : ∀ j, j < 8 → s j = s' j) (j : Nat) (hj : j < 8) : rnd s k w j = rnd s' k w j := by
  have h0 := hs 0 (by decide)
  have h1 := hs 1 (by decide)
  have h2 := hs 2 (by decide)
  have h3 := hs 3 (by decide)
  have h4 := hs 4 (by decide)
  have h5 := hs 5 (by decide)
  have h6 := hs 6 (by decide)
  have h7 := hs 7 (by decide)
  have c : j = 0 ∨ j = 1 ∨ j = 2 ∨ j = 3 ∨ j = 4 ∨ j = 5 ∨ j = 6 ∨ j = 7 := by omega
  rcases c with rfl | rfl | rfl | rfl | rfl | rfl | rfl | rfl <;> simp only [rnd, rndT1, rndT2, h0, h1, h2, h3, h4, h5, h6, h7]
theorem rnds_cg {K W W' s s' : Nat → Int32} (hs : ∀ j, j < 8 → s j = s' j) : ∀ n, (∀ i, i < n → W i = W' i) → ∀ j, j < 8 → rnds K W s n j = rnds K W' s' n j := by
  intro n
  induction n with
  | zero => intro _; exact hs
  | succ n ih =>
    intro hW j hj
    show rnd (rnds K W s n) (K n) (W n) j = rnd (rnds K W' s' n) (K n) (W' n) j
    rw [hW n (by omega)]
    exact rnd_cg (ih fun i hi => hW i (by omega)) j hj
theorem cmpF_step {m : Nat → Int32} {b : Nat} {f fc : Nat → Int32} (hf : IsSched m (64 * b) 64 f) (hc : ∀ j, j < 8 → fc j = chF m b j) (j : Nat) (hj : j < 8) : cmpF (rnds (fun j => t256.getD j 0) f fc 64) fc j = chF m (b + 1) j := by
  show cmpF _ _ j = cmpF _ _ j
  unfold cmpF
  rw [if_pos hj, if_pos hj, hc j hj, rnds_cg hc 64 (hf.uniq (ssch_ok m (64 * b))) j hj]
/-- byte i of a chain -/
def dgF (c : Nat → Int32) (i : Nat) : Int32 := ((c (i / 4)) >>> (nI (24 - 8 * (i % 4)) &&& 31)).toInt8.toInt32
noncomputable def sha256 (l : List Int32) : List Int32 := (List.range 32).map (dgF (chF (fun j => (l ++ padL l.length 64 8).getD j 0) ((l ++ padL l.length 64 8).length / 64)))
theorem sha256_len (l : List Int32) : (sha256 l).length = 32 := by unfold sha256; rw [List.length_map, List.length_range]
section MH2
variable {A : Nat → Nat} {X : AH} {R : Nat → Nat} {I : Nat → Nat → Int32} {S : Nat → List Int32} {F : Nat → Int32} {h : AH} {l : List Int32}
set_option maxHeartbeats 2000000 in
theorem h2_ok (g : GX) (w : SW A X R I S F l h) (hl : l.length + 72 ≤ 2600) :
    MT g MX10_h2 ({ frames := 2, cells := 0, slots := 0, locals := 53 } : Room) [.ref (A 96)] h (RV fun h' => SW A X R I (up S 27 (sha256 l)) F [] h') := by
  refine MT.of (by decide) (Nat.le_of_ble_eq_true rfl) ?_
  generalize hPost : (RV fun h' => SW A X R I (up S 27 (sha256 l)) F [] h') = Post
  refine X_aload_n (pc := 0) 0 dX10_h2_0 rfl rfl ?_
  refine X_bipush (pc := 1) (x := 64) dX10_h2_1 (by decide) ?_
  refine X_bipush (pc := 3) (x := 8) dX10_h2_3 (by decide) ?_
  refine X_ivv (pc := 5) _ dX10_h2_5 cv_X10_270_11 (MW.ob w) rfl (pads_ok g w (blk := 64) (sz := 8) (Or.inl ⟨rfl, rfl⟩) (by omega)) nX10_pads (Nat.le_of_ble_eq_true rfl) (Nat.le_of_ble_eq_true rfl) (Nat.le_of_ble_eq_true rfl) (Nat.le_of_ble_eq_true rfl) (fun h1 q1 => ?_)
  have hpl := pad_len l 64 8
  have hpm := pad_mod64 l.length
  have hpz := padZ_lt l.length 64 8 (by decide)
  have hsd : sha256 l = (List.range 32).map (dgF (chF (fun j => (l ++ padL l.length 64 8).getD j 0) ((l ++ padL l.length 64 8).length / 64))) := rfl
  generalize hP : l ++ padL l.length 64 8 = P at *
  have hPl : P.length ≤ 2600 := by omega
  have hPm : P.length % 64 = 0 := by omega
  have q1 : MW A X R I (up S 25 P) (up F 26 (nI P.length)) h1 := q1
  have loop3 : ∀ (fc : Nat → Int32), (∀ j, j < 8 → fc j = chF (fun j => P.getD j 0) (P.length / 64) j) → ∀ m i, i + m = 32 → ∀ h',
      MW A X R I (up (up S 25 P) 27 ((List.range i).map (dgF (chF (fun j => P.getD j 0) (P.length / 64))))) (up F 26 (nI P.length)) h' → h' (A 28) = some (Ai false 0 8 fc) →
      XX g MX10_h2 ({ frames := 2, cells := 0, slots := 0, locals := 53 } : Room) Post 0 0 56 [(1, .int (nI i)), (0, .ref (A 96))] [] h' := by
    intro fc hfc m
    induction m with
    | zero =>
      intro i hi h' w' c'
      have e : i = 32 := by omega
      subst e
      refine X_iload_n (pc := 56) 0 dX10_h2_56 rfl rfl ?_
      refine X_bipush (pc := 57) (x := 32) dX10_h2_57 (by decide) ?_
      refine X_cge (a := 32) (b := 32) (pc := 59) 93 dX10_h2_59 (by decide) (by omega) (by omega) (fun _ => ?_) (fun c => absurd c (by omega))
      refine X_aload_n (pc := 93) 1 dX10_h2_93 rfl rfl ?_
      refine X_iconst (pc := 94) (x := 0) dX10_h2_94 (by decide) ?_
      refine X_putfield (pc := 95) dX10_h2_95 fp_X10_243_11 (fun e => by cases e) (MW.ob w') rfl rfl (Nat.le_of_ble_eq_true rfl) ?_
      have w2 := (w'.setF26 (v := 0)).cutS 25 rfl
      rw [up_up', up_comm S _ _ (show 25 ≠ 27 by decide), up_up', ← hsd] at w2
      subst hPost
      refine X_return (pc := 98) dX10_h2_98 rfl (Nat.le_of_ble_eq_true rfl) (Nat.le_of_ble_eq_true rfl) ?_
      exact ⟨rfl, w2⟩
    | succ m ih =>
      intro i hi h' w' c'
      have ci : (nI i).toNatClampNeg = i := nI_clamp (by omega)
      have b1 : vp_in (nI i) 48 := vp_in_nI (by omega) (by omega)
      have ci4 : (nI (i / 4)).toNatClampNeg = i / 4 := nI_clamp (by omega)
      have b4 : vp_in (nI (i / 4)) 8 := vp_in_nI (by omega) (by omega)
      obtain ⟨fd, d1, d2, d3⟩ := w'.s 27 rfl
      rw [up_same] at d2
      have hli : ((List.range i).map (dgF (chF (fun j => P.getD j 0) (P.length / 64)))).length = i := by rw [List.length_map, List.length_range]
      refine X_iload_n (pc := 56) 0 dX10_h2_56 rfl rfl ?_
      refine X_bipush (pc := 57) (x := 32) dX10_h2_57 (by decide) ?_
      refine X_cge (b := 32) (pc := 59) 93 dX10_h2_59 (by decide) (by omega) (by omega) (fun c => absurd c (by omega)) (fun _ => ?_)
      refine X_aload_n (pc := 62) 1 dX10_h2_62 rfl rfl ?_
      refine X_getfield (pc := 63) dX10_h2_63 fg_X10_283_11 (MW.ob w') mf_27 ?_
      refine X_iload_n (pc := 66) 0 dX10_h2_66 rfl rfl ?_
      refine X_aload_n (pc := 67) 1 dX10_h2_67 rfl rfl ?_
      refine X_getfield (pc := 68) dX10_h2_68 fg_X10_274_11 (MW.ob w') mf_28 ?_
      refine X_iload_n (pc := 71) 0 dX10_h2_71 rfl rfl ?_
      refine X_iconst (pc := 72) (x := 4) dX10_h2_72 (by decide) ?_
      refine X_idiv (pc := 73) dX10_h2_73 (show ¬ (4 : Int32) = 0 by decide) ?_
      rw [show nI i / 4 = nI (i / 4) from pk_div (d := 4) (by omega) (by decide) (by decide)]
      refine X_iaload (pc := 74) dX10_h2_74 c' b4 ?_
      refine X_bipush (pc := 75) (x := 24) dX10_h2_75 (by decide) ?_
      refine X_bipush (pc := 77) (x := 8) dX10_h2_77 (by decide) ?_
      refine X_iload_n (pc := 79) 0 dX10_h2_79 rfl rfl ?_
      refine X_iconst (pc := 80) (x := 4) dX10_h2_80 (by decide) ?_
      refine X_irem (pc := 81) dX10_h2_81 (show ¬ (4 : Int32) = 0 by decide) ?_
      rw [ci4, show nI i - nI i / 4 * 4 = nI (i % 4) from pk_rem (d := 4) (by omega) (by decide) (by decide)]
      refine X_imul (pc := 82) dX10_h2_82 ?_
      refine X_isub (pc := 83) dX10_h2_83 ?_
      rw [show (8 : Int32) * nI (i % 4) = nI (8 * (i % 4)) from pk_mul 8 _, show (24 : Int32) - nI (8 * (i % 4)) = nI (24 - 8 * (i % 4)) from pk_sub (a := 24) (by omega)]
      refine X_ishr (pc := 84) dX10_h2_84 ?_
      refine X_i2b (pc := 85) dX10_h2_85 ?_
      refine X_bastore (pc := 86) dX10_h2_86 d1 b1 ?_
      rw [ci, Int8.toInt8_toInt32, hfc (i / 4) (by omega)]
      have w2 := w'.setS 27 rfl (PL_snoc (x := dgF (chF (fun j => P.getD j 0) (P.length / 64)) i) d2) (by rw [List.length_append, hli]; exact (show i + 1 ≤ 48 by omega))
      rw [up_up', hli, ← List.map_singleton (f := dgF (chF (fun j => P.getD j 0) (P.length / 64))), ← List.map_append, ← List.range_succ] at w2
      have c2 : (hset h' (A 27) (Ai false 2 48 (upd fd i (dgF (chF (fun j => P.getD j 0) (P.length / 64)) i)))) (A 28) = some (Ai false 0 8 fc) := by
        rw [hset_ne (w'.ne (by decide) (by decide) (by decide))]; exact c'
      refine X_iinc (pc := 87) (L' := [(1, .int (_ + 1)), (0, .ref _)]) 0 dX10_h2_87 rfl rfl (Nat.le_of_ble_eq_true rfl) rfl ?_
      refine X_goto (pc := 90) 56 dX10_h2_90 (by decide) ?_
      rw [show nI i + 1 = nI (i + 1) from nI_add i 1]
      exact ih (i + 1) (by omega) _ w2 c2
  have loop2 : ∀ m b, 64 * b + 64 * m = P.length → ∀ h' fc, MW A X R I (up S 25 P) (up F 26 (nI P.length)) h' → h' (A 28) = some (Ai false 0 8 fc) → (∀ j, j < 8 → fc j = chF (fun j => P.getD j 0) b j) →
      XX g MX10_h2 ({ frames := 2, cells := 0, slots := 0, locals := 53 } : Room) Post 0 0 35 [(1, .int (nI (64 * b))), (0, .ref (A 96))] [] h' := by
    intro m
    induction m with
    | zero =>
      intro b hb h' fc w' c' hc
      have e : b = P.length / 64 := by omega
      refine X_iload_n (pc := 35) 0 dX10_h2_35 rfl rfl ?_
      refine X_aload_n (pc := 36) 1 dX10_h2_36 rfl rfl ?_
      refine X_getfield (pc := 37) dX10_h2_37 fg_X10_243_11 (MW.ob w') mf_26 ?_
      rw [up_same]
      refine X_cge (pc := 40) 54 dX10_h2_40 (by decide) (by omega) (by omega) (fun _ => ?_) (fun c => absurd c (by omega))
      refine X_iconst (pc := 54) (x := 0) dX10_h2_54 (by decide) ?_
      refine X_istore_n (pc := 55) (L' := [(1, .int _), (0, .ref _)]) dX10_h2_55 rfl (Nat.le_of_ble_eq_true rfl) rfl ?_
      rw [e] at hc
      exact loop3 fc hc 32 0 (by omega) h' (w'.cutS 27 rfl) c'
    | succ m ih =>
      intro b hb h' fc w' c' hc
      refine X_iload_n (pc := 35) 0 dX10_h2_35 rfl rfl ?_
      refine X_aload_n (pc := 36) 1 dX10_h2_36 rfl rfl ?_
      refine X_getfield (pc := 37) dX10_h2_37 fg_X10_243_11 (MW.ob w') mf_26 ?_
      rw [up_same]
      refine X_cge (pc := 40) 54 dX10_h2_40 (by decide) (by omega) (by omega) (fun c => absurd c (by omega)) (fun _ => ?_)
      refine X_aload_n (pc := 43) 1 dX10_h2_43 rfl rfl ?_
      refine X_iload_n (pc := 44) 0 dX10_h2_44 rfl rfl ?_
      refine X_ivv (pc := 45) _ dX10_h2_45 cv_X10_280_11 (MW.ob w') rfl (block_ok g w' (at' := 64 * b) (by rw [up_same]; omega) c') nX10_block (Nat.le_of_ble_eq_true rfl) (Nat.le_of_ble_eq_true rfl) (Nat.le_of_ble_eq_true rfl) (Nat.le_of_ble_eq_true rfl) (fun h2 q2 => ?_)
      obtain ⟨f, hf, rfl⟩ := q2
      rw [up_same] at hf
      refine X_iinc (pc := 48) (L' := [(1, .int (_ + 64)), (0, .ref _)]) 0 dX10_h2_48 rfl rfl (Nat.le_of_ble_eq_true rfl) rfl ?_
      refine X_goto (pc := 51) 35 dX10_h2_51 (by decide) ?_
      rw [show nI (64 * b) + 64 = nI (64 * (b + 1)) from nI_add (64 * b) 64]
      exact ih (b + 1) (by omega) _ _ ((w'.setJ 29 rfl f).setJ 28 rfl _) (hset_self _ _ _) (cmpF_step hf hc)
  obtain ⟨f28, c28⟩ := q1.j 28 rfl
  have loop1 : ∀ m i, i + m = 8 → ∀ f : Nat → Int32, (∀ j, j < i → f j = tS256.getD j 0) →
      XX g MX10_h2 ({ frames := 2, cells := 0, slots := 0, locals := 53 } : Room) Post 0 0 10 [(1, .int (nI i)), (0, .ref (A 96))] [] (hset h1 (A 28) (Ai false 0 8 f)) := by
    intro m
    induction m with
    | zero =>
      intro i hi f hf
      have e : i = 8 := by omega
      subst e
      refine X_iload_n (pc := 10) 0 dX10_h2_10 rfl rfl ?_
      refine X_bipush (pc := 11) (x := 8) dX10_h2_11 (by decide) ?_
      refine X_cge (a := 8) (b := 8) (pc := 13) 33 dX10_h2_13 (by decide) (by omega) (by omega) (fun _ => ?_) (fun c => absurd c (by omega))
      refine X_iconst (pc := 33) (x := 0) dX10_h2_33 (by decide) ?_
      refine X_istore_n (pc := 34) (L' := [(1, .int _), (0, .ref _)]) dX10_h2_34 rfl (Nat.le_of_ble_eq_true rfl) rfl ?_
      exact loop2 (P.length / 64) 0 (by omega) _ f (q1.setJ 28 rfl f) (hset_self _ _ _) hf
    | succ m ih =>
      intro i hi f hf
      have ci : (nI i).toNatClampNeg = i := nI_clamp (by omega)
      have b1 : vp_in (nI i) 8 := vp_in_nI (by omega) (by omega)
      have w1 := q1.setJ 28 rfl f
      have c1 := hset_self h1 (A 28) (Ai false 0 8 f)
      refine X_iload_n (pc := 10) 0 dX10_h2_10 rfl rfl ?_
      refine X_bipush (pc := 11) (x := 8) dX10_h2_11 (by decide) ?_
      refine X_cge (b := 8) (pc := 13) 33 dX10_h2_13 (by decide) (by omega) (by omega) (fun c => absurd c (by omega)) (fun _ => ?_)
      refine X_aload_n (pc := 16) 1 dX10_h2_16 rfl rfl ?_
      refine X_getfield (pc := 17) dX10_h2_17 fg_X10_274_11 (MW.ob w1) mf_28 ?_
      refine X_iload_n (pc := 20) 0 dX10_h2_20 rfl rfl ?_
      refine X_getstatic (pc := 21) (j := 9) dX10_h2_21 q1854 (fun _ => rfl) rfl (fun st_21 hs_21 => ?_)
      refine X_iload_n (pc := 24) 0 dX10_h2_24 rfl rfl ?_
      refine X_iaload (pc := 25) dX10_h2_25 hs_21 b1 ?_
      refine X_iastore (pc := 26) dX10_h2_26 c1 b1 ?_
      refine X_iinc (pc := 27) (L' := [(1, .int (_ + 1)), (0, .ref _)]) 0 dX10_h2_27 rfl rfl (Nat.le_of_ble_eq_true rfl) rfl ?_
      refine X_goto (pc := 30) 10 dX10_h2_30 (by decide) ?_
      rw [ci, hset_hset, show nI i + 1 = nI (i + 1) from nI_add i 1]
      refine ih (i + 1) (by omega) _ (fun j hj => ?_)
      by_cases e : j = i
      · rw [e, upd_at]
      · exact (if_neg e).trans (hf j (by omega))
  refine X_iconst (pc := 8) (x := 0) dX10_h2_8 (by decide) ?_
  refine X_istore_n (pc := 9) (L' := [(1, .int _), (0, .ref _)]) dX10_h2_9 rfl (Nat.le_of_ble_eq_true rfl) rfl ?_
  have := loop1 8 0 (by omega) f28 (fun j hj => absurd hj (by omega))
  rw [hset_same c28] at this
  exact this
end MH2
