set_option maxRecDepth 100000
theorem rest_hi {p s many : Nat} {fh fw : Nat → Int32} (hs : s < 32) (hmn : p + 2 ≤ many) (htop : 2 ^ 31 ≤ u32 (fh (p + 1))) : V (p + 2) (sh (many - (p + 2) + 1) (fA s many 0 fw)) < V (p + 2) fh := by
  have e1 : V (p + 2) (sh (many - (p + 2) + 1) (fA s many 0 fw)) = V (p + 1) (sh (many - (p + 2) + 1) (fA s many 0 fw)) + u32 (fA s many 0 fw (many - (p + 2) + 1 + (p + 1))) * 2 ^ (32 * (p + 1)) := rfl
  rw [show many - (p + 2) + 1 + (p + 1) = many by omega] at e1
  have e2 : u32 (fA s many 0 fw many) < 2 ^ 31 := by
    unfold fA
    rw [if_pos rfl]
    have := up_lt hs (fw (many - 1))
    have h31 : 2 ^ s ≤ 2 ^ 31 := Nat.pow_le_pow_right (by decide) (by omega)
    omega
  have e3 := V_lt (p + 1) (sh (many - (p + 2) + 1) (fA s many 0 fw))
  have e4 : V (p + 2) fh = V (p + 1) fh + u32 (fh (p + 1)) * 2 ^ (32 * (p + 1)) := rfl
  have e5 : (u32 (fA s many 0 fw many) + 1) * 2 ^ (32 * (p + 1)) ≤ u32 (fh (p + 1)) * 2 ^ (32 * (p + 1)) := Nat.mul_le_mul_right _ (by omega)
  rw [Nat.add_mul] at e5
  omega
theorem top_pos {p : Nat} {fh : Nat → Int32} (htop : 2 ^ 31 ≤ u32 (fh (p + 1))) : 0 < V (p + 2) fh := by
  rw [V_top2]
  have : 0 < 2 ^ (32 * p) * (u32 (fh p) + 2 ^ 32 * u32 (fh (p + 1))) := Nat.mul_pos (Nat.two_pow_pos _) (by omega)
  omega
set_option maxHeartbeats 4000000 in
theorem mrest_shl (g : GX) {h : AH} {M0 M am ah aw to p s many Nh no mv : Nat} {fl : List Value} {fh fw fo : Nat → Int32} (hO : h M0 = some (Ob 11 fl)) (hM : h M = some (Ob 12 [.ref am, .ref ah, .int (nI (p + 2)), .int (nI s)])) (hh : h ah = some (Ai false 0 Nh fh)) (hw : h aw = some (Ai false 0 130 fw)) (ho : h to = some (Ai false 0 no fo)) (f1 : fl[1]? = some (.ref aw))
    (hne : ah ≠ aw) (hto : to ≠ aw) (hn : p + 2 ≤ Nh) (hNh : Nh < 2 ^ 31) (hmn : p + 2 ≤ many) (hmany : many < 129) (hs : s < 32) (htop : 2 ^ 31 ≤ u32 (fh (p + 1))) {Post : Outcome → AH → Prop}
    (mainl : ∀ (m : Nat), m + (p + 2) ≤ many + 1 → ∀ (f : Nat → Int32), DvI (p + 2) (V (p + 2) fh) (V many fw * 2 ^ s) m f → (m = 0 → f (p + 2) = 0) →
      XX g MX10_rest ({ frames := 2, cells := 0, slots := 0, locals := 49 } : Room) Post 0 0 124 [(8, .int (nI m - 1)), (6, .long (lN (u32 (fh (p + 1))))), (4, .int (nI (p + 2))), (5, .int (nI s)), (0, .ref M0), (1, .ref M), (2, .int (nI many)), (3, .ref to)] [] (hset h aw (Ai false 0 130 f)))
    (K : Nat) (hK : K ≤ many) : XX g MX10_rest ({ frames := 2, cells := 0, slots := 0, locals := 49 } : Room) Post 0 0 46 [(6, .int (nI K - 1)), (4, .int (nI (p + 2))), (5, .int (nI s)), (0, .ref M0), (1, .ref M), (2, .int (nI many)), (3, .ref to)] [] (hset h aw (Ai false 0 130 (fA s many K fw))) := by
  have n1 : M0 ≠ aw := ne_of hO hw (fun e => by cases e)
  have n2 : M ≠ aw := ne_of hM hw (fun e => by cases e)
  have n3 : M0 ≠ to := ne_of hO ho (fun e => by cases e)
  have out : ∀ f, hset h aw (Ai false 0 130 f) M0 = some (Ob 11 fl) ∧ hset h aw (Ai false 0 130 f) M = some (Ob 12 [.ref am, .ref ah, .int (nI (p + 2)), .int (nI s)]) ∧ hset h aw (Ai false 0 130 f) ah = some (Ai false 0 Nh fh) ∧ hset h aw (Ai false 0 130 f) to = some (Ai false 0 no fo) := fun f =>
    ⟨by rw [hset_ne n1]; exact hO, by rw [hset_ne n2]; exact hM, by rw [hset_ne hne]; exact hh, by rw [hset_ne hto]; exact ho⟩
  clear n1 n2 n3 hne hto ho hO hM hh hw
  induction K with
  | zero =>
    obtain ⟨o1, o2, o3, o4⟩ := out (fA s many 0 fw)
    have i1 : nI (p + 2) - 1 = nI (p + 1) := nI_pred (p + 1)
    have cp : (nI (p + 1)).toNatClampNeg = p + 1 := nI_clamp (by omega)
    have bp : vp_in (nI (p + 1)) Nh := vp_in_nI (by omega) (by omega)
    refine X_iload (pc := 46) 0 dX10_rest_46 rfl ?_
    refine X_if_lt (pc := 48) 104 dX10_rest_48 (by decide) (fun c_48 => ?_) (fun c_48 => ?_)
    · refine X_aload_n (pc := 104) 4 dX10_rest_104 rfl rfl ?_
      refine X_getfield (pc := 105) dX10_rest_105 fg_X10_39_12 o2 (by first | rfl | assumption) ?_
      refine X_iload (pc := 108) 1 dX10_rest_108 rfl ?_
      refine X_iconst (pc := 110) (x := 1) dX10_rest_110 (by decide) ?_
      refine X_isub (pc := 111) dX10_rest_111 ?_
      rw [i1]
      refine X_iaload (pc := 112) dX10_rest_112 o3 bp ?_
      rw [cp]
      refine X_isl (pc := 113) _ dX10_rest_113 cs_X10_9 rfl (mu_ok g _ _) nX10_u (Nat.le_of_ble_eq_true rfl) (Nat.le_of_ble_eq_true rfl) (Nat.le_of_ble_eq_true rfl) (Nat.le_of_ble_eq_true rfl) (fun r1 h1 q1 => ?_)
      obtain ⟨rfl, rfl⟩ := q1
      refine X_lstore (pc := 116) (L' := [(6, .long _), (4, .int _), (5, .int _), (0, .ref _), (1, .ref _), (2, .int _), (3, .ref _)]) dX10_rest_116 (Nat.le_of_ble_eq_true rfl) rfl ?_
      refine X_iload_n (pc := 118) 5 dX10_rest_118 rfl rfl ?_
      refine X_iload (pc := 119) 1 dX10_rest_119 rfl ?_
      refine X_isub (pc := 121) dX10_rest_121 ?_
      rw [pk_sub hmn]
      have hw0 : nI (many - (p + 2)) = nI (many - (p + 2) + 1) - 1 := (nI_pred _).symm
      rw [hw0]
      refine X_istore (pc := 122) (L' := [(8, .int _), (6, .long _), (4, .int _), (5, .int _), (0, .ref _), (1, .ref _), (2, .int _), (3, .ref _)]) dX10_rest_122 (Nat.le_of_ble_eq_true rfl) rfl ?_
      refine XX.pick (L' := [(8, .int _), (6, .long _), (4, .int _), (5, .int _), (0, .ref _), (1, .ref _), (2, .int _), (3, .ref _)]) [0, 1, 2, 3, 4, 5, 6, 7] rfl ?_
      have hVX := fA_V hs (by omega) fw (many := many)
      refine mainl (many - (p + 2) + 1) (by omega) _ ⟨?_, ?_⟩ (fun e => absurd e (Nat.succ_ne_zero _))
      · rw [show many - (p + 2) + 1 + (p + 2) = many + 1 by omega, hVX]
      · exact rest_hi hs hmn htop
    · exact absurd (show nI 0 - 1 < 0 by decide) c_48
  | succ K ih =>
    obtain ⟨o1, o2, o3, o4⟩ := out (fA s many (K + 1) fw)
    have cK : (nI K).toNatClampNeg = K := nI_clamp (by omega)
    have bK : vp_in (nI K) 130 := vp_in_nI (by omega) (by omega)
    have aK : ∀ j, j ≤ K → fA s many (K + 1) fw j = fw j := fun j hj => by unfold fA; rw [if_neg (show ¬ j = many by omega), if_neg (show ¬ (K + 1 ≤ j ∧ j < many) by omega)]
    have fin : ∀ y : Int32, y = (if K = 0 then 0 else upS s (fw (K - 1))) → XX g MX10_rest ({ frames := 2, cells := 0, slots := 0, locals := 49 } : Room) Post 0 0 96 [(6, .int (nI K)), (4, .int (nI (p + 2))), (5, .int (nI s)), (0, .ref M0), (1, .ref M), (2, .int (nI many)), (3, .ref to)] [.int y, .int (fw K <<< (nI s &&& 31)), .int (nI K), .ref aw] (hset h aw (Ai false 0 130 (fA s many (K + 1) fw))) := by
      intro y hy
      refine X_ior (pc := 96) dX10_rest_96 ?_
      refine X_iastore (pc := 97) dX10_rest_97 (hset_self _ _ _) bK ?_
      refine X_iinc (pc := 98) (L' := [(6, .int (_ + (-1))), (4, .int _), (5, .int _), (0, .ref _), (1, .ref _), (2, .int _), (3, .ref _)]) 0 dX10_rest_98 rfl rfl (Nat.le_of_ble_eq_true rfl) rfl ?_
      refine X_goto (pc := 101) 46 dX10_rest_101 (by decide) ?_
      refine XX.eqh (hset_hset _ _ _ _) ?_
      rw [cK, m1, hy]
      have e : upd (fA s many (K + 1) fw) K (fw K <<< (nI s &&& 31) ||| if K = 0 then 0 else upS s (fw (K - 1))) = fA s many K fw := by
        funext j
        unfold upd fA
        by_cases e1 : j = K
        · subst e1
          rw [if_pos rfl, if_neg (show ¬ j = many by omega), if_pos (show j ≤ j ∧ j < many by omega)]
          rfl
        · rw [if_neg e1]
          by_cases e2 : j = many
          · rw [if_pos e2, if_pos e2]
          · rw [if_neg e2, if_neg e2]
            by_cases e3 : K + 1 ≤ j ∧ j < many
            · rw [if_pos e3, if_pos (show K ≤ j ∧ j < many by omega)]
            · rw [if_neg e3, if_neg (show ¬ (K ≤ j ∧ j < many) by omega)]
      rw [e]
      exact ih (by omega)
    rw [nI_pred]
    refine X_iload (pc := 46) 0 dX10_rest_46 rfl ?_
    refine X_if_lt (pc := 48) 104 dX10_rest_48 (by decide) (fun c_48 => ?_) (fun c_48 => ?_)
    · exact absurd c_48 (nI_pos (by omega))
    · skip
      refine X_aload_n (pc := 51) 3 dX10_rest_51 rfl rfl ?_
      refine X_getfield (pc := 52) dX10_rest_52 fg_X10_36_11 o1 f1 ?_
      refine X_iload (pc := 55) 0 dX10_rest_55 rfl ?_
      refine X_aload_n (pc := 57) 3 dX10_rest_57 rfl rfl ?_
      refine X_getfield (pc := 58) dX10_rest_58 fg_X10_36_11 o1 f1 ?_
      refine X_iload (pc := 61) 0 dX10_rest_61 rfl ?_
      refine X_iaload (pc := 63) dX10_rest_63 (hset_self _ _ _) bK ?_
      rw [cK, aK K (Nat.le_refl K)]
      refine X_iload (pc := 64) 2 dX10_rest_64 rfl ?_
      refine X_ishl (pc := 66) dX10_rest_66 ?_
      refine X_iload (pc := 67) 2 dX10_rest_67 rfl ?_
      refine X_if_le (pc := 69) 95 dX10_rest_69 (by decide) (fun c_69 => ?_) (fun c_69 => ?_)
      · have hs0 : s = 0 := by
          rcases Nat.eq_zero_or_pos s with e | e
          · exact e
          · exact absurd c_69 (nI_nle e (by omega))
        refine X_iconst (pc := 95) (x := 0) dX10_rest_95 (by decide) ?_
        refine fin 0 ?_
        unfold upS
        rw [if_pos hs0]
        split <;> rfl
      · have hs0 : s ≠ 0 := fun e => c_69 (by rw [e]; decide)
        refine X_iload (pc := 72) 0 dX10_rest_72 rfl ?_
        refine X_if_le (pc := 74) 95 dX10_rest_74 (by decide) (fun c_74 => ?_) (fun c_74 => ?_)
        · have hK0 : K = 0 := by
            rcases Nat.eq_zero_or_pos K with e | e
            · exact e
            · exact absurd c_74 (nI_nle e (by omega))
          refine X_iconst (pc := 95) (x := 0) dX10_rest_95 (by decide) ?_
          exact fin 0 (by rw [if_pos hK0])
        · have hK0 : K ≠ 0 := fun e => c_74 (by rw [e]; decide)
          have i1 : nI K - 1 = nI (K - 1) := by rw [show K = K - 1 + 1 by omega, nI_pred, Nat.add_sub_cancel]
          have cK1 : (nI (K - 1)).toNatClampNeg = K - 1 := nI_clamp (by omega)
          have bK1 : vp_in (nI (K - 1)) 130 := vp_in_nI (by omega) (by omega)
          refine X_aload_n (pc := 77) 3 dX10_rest_77 rfl rfl ?_
          refine X_getfield (pc := 78) dX10_rest_78 fg_X10_36_11 o1 f1 ?_
          refine X_iload (pc := 81) 0 dX10_rest_81 rfl ?_
          refine X_iconst (pc := 83) (x := 1) dX10_rest_83 (by decide) ?_
          refine X_isub (pc := 84) dX10_rest_84 ?_
          rw [i1]
          refine X_iaload (pc := 85) dX10_rest_85 (hset_self _ _ _) bK1 ?_
          refine X_bipush (pc := 86) (x := 32) dX10_rest_86 (by decide) ?_
          refine X_iload (pc := 88) 2 dX10_rest_88 rfl ?_
          refine X_isub (pc := 90) dX10_rest_90 ?_
          rw [cK1, aK _ (by omega), i32s (Nat.le_of_lt hs)]
          refine X_iushr (pc := 91) dX10_rest_91 ?_
          refine X_goto (pc := 92) 96 dX10_rest_92 (by decide) ?_
          refine fin _ ?_
          rw [if_neg hK0]
          unfold upS
          rw [if_neg hs0]
