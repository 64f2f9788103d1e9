set_option maxRecDepth 100000
set_option maxHeartbeats 4000000 in
theorem mrest_ok (g : GX) {h : AH} {M0 M am ah aw to p s many Nh no mv : Nat} {fl : List Value} {fh fw fo : Nat → Int32} (hO : h M0 = some (Ob 11 fl)) (hM : h M = some (Ob 12 [.ref am, .ref ah, .int (nI (p + 2)), .int (nI s)])) (hh : h ah = some (Ai false 0 Nh fh)) (hw : h aw = some (Ai false 0 130 fw)) (ho : h to = some (Ai false 0 no fo)) (f1 : fl[1]? = some (.ref aw))
    (hne : ah ≠ aw) (hto : to ≠ aw) (hn : p + 2 ≤ Nh) (hno : p + 2 ≤ no) (hl : Nh < 2 ^ 31 ∧ no < 2 ^ 31) (hmn : p + 2 ≤ many) (hmany : many < 129) (hs : s < 32) (hV : V (p + 2) fh = mv * 2 ^ s) (htop : 2 ^ 31 ≤ u32 (fh (p + 1))) :
    MT g MX10_rest ({ frames := 2, cells := 0, slots := 0, locals := 49 } : Room) [.ref M0, .ref M, .int (nI many), .ref to] h (RV fun h' => ∃ f fw', (∀ j, p + 2 ≤ j → f j = fo j) ∧ V (p + 2) f = V many fw % mv ∧ h' = hset (hset h aw (Ai false 0 130 fw')) to (Ai false 0 no f)) := by
  refine MT.of (by decide) (Nat.le_of_ble_eq_true rfl) ?_
  generalize hPost : (RV fun h' => ∃ f fw', (∀ j, p + 2 ≤ j → f j = fo j) ∧ V (p + 2) f = V many fw % mv ∧ h' = hset (hset h aw (Ai false 0 130 fw')) to (Ai false 0 no f)) = Post
  have n1 : M0 ≠ aw := ne_of hO hw (fun e => by cases e)
  have n2 : M ≠ aw := ne_of hM hw (fun e => by cases e)
  have n3 : M0 ≠ to := ne_of hO ho (fun e => by cases e)
  have out : ∀ f, hset h aw (Ai false 0 130 f) M0 = some (Ob 11 fl) ∧ hset h aw (Ai false 0 130 f) M = some (Ob 12 [.ref am, .ref ah, .int (nI (p + 2)), .int (nI s)]) ∧ hset h aw (Ai false 0 130 f) ah = some (Ai false 0 Nh fh) ∧ hset h aw (Ai false 0 130 f) to = some (Ai false 0 no fo) := fun f =>
    ⟨by rw [hset_ne n1]; exact hO, by rw [hset_ne n2]; exact hM, by rw [hset_ne hne]; exact hh, by rw [hset_ne hto]; exact ho⟩
  have mainl := mrest_main g hO hM hh hw ho f1 hne hto hn hl.1 (by omega) htop (V_lt _ _) (top_pos htop) (mv := mv) (Post := Post) (fun f a6 hD hz => mrest_last g hO hM hh hw ho f1 hne hto hno hl.2 (by omega) hs hPost f a6 (rest_fv hs hV hD hz))
  -- the row is shifted
  have shl := mrest_shl (mv := mv) g hO hM hh hw ho f1 hne hto hn hl.1 hmn hmany hs htop mainl
  clear n1 n2 n3 hne hto out mainl
  have im : nI many - 1 = nI (many - 1) := by rw [show many = many - 1 + 1 by omega, nI_pred, Nat.add_sub_cancel]
  have cm : (nI many).toNatClampNeg = many := nI_clamp (by omega)
  have cm1 : (nI (many - 1)).toNatClampNeg = many - 1 := nI_clamp (by omega)
  have bm : vp_in (nI many) 130 := vp_in_nI (by omega) (by omega)
  have bm1 : vp_in (nI (many - 1)) 130 := vp_in_nI (by omega) (by omega)
  have fin0 : ∀ y : Int32, y = upS s (fw (many - 1)) → XX g MX10_rest ({ frames := 2, cells := 0, slots := 0, locals := 49 } : Room) Post 0 0 40 [(5, .int (nI s)), (4, .int (nI (p + 2))), (0, .ref M0), (1, .ref M), (2, .int (nI many)), (3, .ref to)] [.int y, .int (nI many), .ref aw] h := by
    intro y hy
    refine X_iastore (pc := 40) dX10_rest_40 hw bm ?_
    refine X_iload_n (pc := 41) 4 dX10_rest_41 rfl rfl ?_
    refine X_iconst (pc := 42) (x := 1) dX10_rest_42 (by decide) ?_
    rw [cm, hy]
    have e : upd fw many (upS s (fw (many - 1))) = fA s many many fw := by
      funext j
      unfold upd fA
      by_cases e1 : j = many
      · rw [if_pos e1, if_pos e1]
      · rw [if_neg e1, if_neg e1, if_neg (show ¬ (many ≤ j ∧ j < many) by omega)]
    rw [e]
    refine X_isub (pc := 43) dX10_rest_43 ?_
    refine X_istore (pc := 44) (L' := [(6, .int _), (5, .int _), (4, .int _), (0, .ref _), (1, .ref _), (2, .int _), (3, .ref _)]) dX10_rest_44 (Nat.le_of_ble_eq_true rfl) rfl ?_
    refine XX.pick (L' := [(6, .int _), (4, .int _), (5, .int _), (0, .ref _), (1, .ref _), (2, .int _), (3, .ref _)]) [0, 2, 1, 3, 4, 5, 6] rfl ?_
    exact shl many (Nat.le_refl _)
  refine X_aload_n (pc := 0) 1 dX10_rest_0 rfl rfl ?_
  refine X_getfield (pc := 1) dX10_rest_1 fg_X10_13_12 hM (by first | rfl | assumption) ?_
  refine X_istore (pc := 4) (L' := [(4, .int _), (0, .ref _), (1, .ref _), (2, .int _), (3, .ref _)]) dX10_rest_4 (Nat.le_of_ble_eq_true rfl) rfl ?_
  refine X_aload_n (pc := 6) 2 dX10_rest_6 rfl rfl ?_
  refine X_getfield (pc := 7) dX10_rest_7 fg_X10_33_12 hM (by first | rfl | assumption) ?_
  refine X_istore (pc := 10) (L' := [(5, .int _), (4, .int _), (0, .ref _), (1, .ref _), (2, .int _), (3, .ref _)]) dX10_rest_10 (Nat.le_of_ble_eq_true rfl) rfl ?_
  refine X_aload_n (pc := 12) 2 dX10_rest_12 rfl rfl ?_
  refine X_getfield (pc := 13) dX10_rest_13 fg_X10_36_11 hO f1 ?_
  refine X_iload_n (pc := 16) 4 dX10_rest_16 rfl rfl ?_
  refine X_iload (pc := 17) 0 dX10_rest_17 rfl ?_
  refine X_if_le (pc := 19) 39 dX10_rest_19 (by decide) (fun c_19 => ?_) (fun c_19 => ?_)
  · have hs0 : s = 0 := by
      rcases Nat.eq_zero_or_pos s with e | e
      · exact e
      · exact absurd c_19 (nI_nle e (by omega))
    refine X_iconst (pc := 39) (x := 0) dX10_rest_39 (by decide) ?_
    exact fin0 0 (by unfold upS; rw [if_pos hs0])
  · have hs0 : s ≠ 0 := fun e => c_19 (by rw [e]; decide)
    refine X_aload_n (pc := 22) 2 dX10_rest_22 rfl rfl ?_
    refine X_getfield (pc := 23) dX10_rest_23 fg_X10_36_11 hO f1 ?_
    refine X_iload_n (pc := 26) 4 dX10_rest_26 rfl rfl ?_
    refine X_iconst (pc := 27) (x := 1) dX10_rest_27 (by decide) ?_
    refine X_isub (pc := 28) dX10_rest_28 ?_
    rw [im]
    refine X_iaload (pc := 29) dX10_rest_29 hw bm1 ?_
    refine X_bipush (pc := 30) (x := 32) dX10_rest_30 (by decide) ?_
    refine X_iload (pc := 32) 0 dX10_rest_32 rfl ?_
    refine X_isub (pc := 34) dX10_rest_34 ?_
    rw [cm1, i32s (Nat.le_of_lt hs)]
    refine X_iushr (pc := 35) dX10_rest_35 ?_
    refine X_goto (pc := 36) 40 dX10_rest_36 (by decide) ?_
    exact fin0 _ (by unfold upS; rw [if_neg hs0])
