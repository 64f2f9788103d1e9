set_option maxRecDepth 100000
/-! the reference: redeem, whole -/
section MRe
variable {A : Nat → Nat} {X : AH} {R R' : Nat → Nat} {I I' : Nat → Nat → Int32} {S S' : Nat → List Int32} {F F' : Nat → Int32} {h : AH} {N : Nat → Nat} {L : Nat → List Int32}
theorem idP_use (N : Nat → Nat) (L : Nat → List Int32) (T : List Int32) : idP (up N 6 0) (up L 0 []) T = idP N L T := funext fun k => by
  unfold idP
  rw [up_ne (show 110 + k ≠ 6 by omega), up_ne (show 100 + k ≠ 6 by omega), up_ne (show 100 + k ≠ 0 by omega)]
theorem rightB_use (N : Nat → Nat) (T : List Int32) (k : Nat) : rightB (up N 6 0) T k = rightB N T k := by
  unfold rightB isSg dbN
  rw [up_ne (show 100 + k ≠ 6 by omega), up_ne (show 120 + k ≠ 6 by omega), up_ne (show 130 + k ≠ 6 by omega), up_ne (show 140 + k ≠ 6 by omega), up_ne (show 150 + k ≠ 6 by omega), up_ne (show 160 + k ≠ 6 by omega)]
set_option maxHeartbeats 4000000 in
theorem redeemc_ok (g : GX) (wf : Wf N L) (m : MRep N L A X h) : MT g MX10_redeem ({ frames := 10, cells := 0, slots := 0, locals := 231 } : Room) [.ref (A 96)] h (RI (MQ3 A X (sRedeem N L))) := by
  obtain ⟨R, I, S, F, w, ms⟩ := m
  refine MT.of (by decide) (Nat.le_of_ble_eq_true rfl) ?_
  have ms1 := ms.use wf
  have hl0 : (L 0).length ≤ 1200 := wf.2.2.2.2.2.2.2.1
  have hB0 : IsB (L 0) := wf.2.2.2.2.2.2.2.2.2.2.1
  have h5 : N 5 ≤ 1 := wf.2.2.2.2.2.1
  have s81 : S 81 = L 0 := ms.2.1
  have f82 : F 82 = nI (L 0).length := ms.2.2.1
  have esq : sRedeem N L = if N 5 ≠ 0 then (-9, up N 6 0, up L 0 []) else if (L 0).length < 98 then (-2, up N 6 0, up L 0 []) else match low (idP N L (L 0)) (N 0) with
    | none => (-3, up N 6 0, up L 0 [])
    | some k => if (L 0).length ≠ 98 + N (150 + k) then (-2, up N 6 0, up L 0 []) else cIf (rightB N (L 0) k) (sSpend (up N 6 0) (up L 0 []) (L 0)) (-4, up N 6 0, up L 0 []) := rfl
  refine X_aload_n (pc := 0) 0 dX10_redeem_0 rfl rfl ?_
  refine X_ivi (pc := 1) _ dX10_redeem_1 cv_X10_612_11 (MW.ob w) rfl (used_ok g w) nX10_used (Nat.le_of_ble_eq_true rfl) (Nat.le_of_ble_eq_true rfl) (Nat.le_of_ble_eq_true rfl) (Nat.le_of_ble_eq_true rfl) (fun r1 h1 q1 => ?_)
  obtain ⟨rfl, w1⟩ := q1
  rw [f82]
  have wf1' := wf.use
  have hid := idP_use N L (L 0)
  have hrB := rightB_use N (L 0)
  have hn1 : ∀ j, N (100 + j) = (up N 6 0) (100 + j) := fun j => (up_ne (by omega)).symm
  have hn0 : N 0 = (up N 6 0) 0 := (up_ne (by decide)).symm
  have f80 : (up (up F 0 0) 82 0) 80 = nI (N 5) := by rw [up_ne (by decide), up_ne (by decide)]; exact ms.2.2.2.2.2.2.2.2.2.2.2.2.2.2.2.1
  generalize hF1 : up (up F 0 0) 82 0 = F1 at *
  generalize hT : L 0 = T at *
  generalize hN1 : up N 6 0 = N1 at *
  generalize hL1 : up L 0 [] = L1 at *
  rw [← hid, hn0] at esq
  have f70 := ms1.f70
  generalize hPost : RI (MQ3 A X (sRedeem N L)) = Post
  rw [esq] at hPost
  refine X_istore_n (pc := 4) (L' := [(1, .int _), (0, .ref _)]) dX10_redeem_4 rfl (Nat.le_of_ble_eq_true rfl) rfl ?_
  refine X_aload_n (pc := 5) 1 dX10_redeem_5 rfl rfl ?_
  refine X_getfield (pc := 6) dX10_redeem_6 fg_X10_704_11 (MW.ob w1) mf_80 ?_
  rw [f80]
  by_cases c5 : N 5 = 0
  rotate_left
  · rw [if_pos c5] at hPost
    refine X_if_eq (pc := 9) 15 dX10_redeem_9 (by decide) (fun z => absurd ((nI_b h5).mp z) c5) (fun _ => ?_)
    refine X_bipush (pc := 12) (x := (-9)) dX10_redeem_12 (by decide) ?_
    refine X_ireturn (pc := 14) dX10_redeem_14 rfl (Nat.le_of_ble_eq_true rfl) (Nat.le_of_ble_eq_true rfl) ?_
    subst hPost
    exact ⟨_, rfl, rfl, MRep.of w1 ms1⟩
  rw [if_neg (fun z => z c5)] at hPost
  refine X_if_eq (pc := 9) 15 dX10_redeem_9 (by decide) (fun _ => ?_) (fun z => absurd ((nI_b h5).mpr c5) z)
  refine X_iload_n (pc := 15) 0 dX10_redeem_15 rfl rfl ?_
  refine X_bipush (pc := 16) (x := 98) dX10_redeem_16 (by decide) ?_
  by_cases c0 : T.length < 98
  · rw [if_pos c0] at hPost
    refine X_cge (b := 98) (pc := 18) 24 dX10_redeem_18 (by decide) (by omega) (by omega) (fun z => absurd z (by omega)) (fun _ => ?_)
    refine X_bipush (pc := 21) (x := (-2)) dX10_redeem_21 (by decide) ?_
    refine X_ireturn (pc := 23) dX10_redeem_23 rfl (Nat.le_of_ble_eq_true rfl) (Nat.le_of_ble_eq_true rfl) ?_
    subst hPost
    exact ⟨_, rfl, rfl, MRep.of w1 ms1⟩
  rw [if_neg c0] at hPost
  refine X_icmp_ge (pc := 18) 24 dX10_redeem_18 (by decide) (fun _ => ?_) (fun z => absurd (nI_le (a := 98) (b := T.length) (by omega) (by omega)) z)
  have h6 := wf1'.1
  have s63l : (S 63).length = 192 := by have := ms1.2.2.2.2.2.2.1; rwa [up_ne (by decide)] at this
  obtain ⟨f63, c63, p63, -⟩ := w1.s 63 rfl
  obtain ⟨f81, c81, p81, -⟩ := w1.s 81 rfl
  rw [s81] at p81
  have fin : ∀ f, FndS (idP N1 L1 T) 0 (N1 0) f → ∀ v3, XX g MX10_redeem ({ frames := 10, cells := 0, slots := 0, locals := 231 } : Room) Post 0 0 132 [(3, .int v3), (2, .int f), (1, .int (nI T.length)), (0, .ref (A 96))] [] h1 := by
    intro f hf v3
    rcases hf.fin with ⟨hlo, rfl⟩ | ⟨k, hlo, rfl, hk⟩
    · rw [hlo] at hPost
      refine X_iload_n (pc := 132) 1 dX10_redeem_132 rfl rfl ?_
      refine X_if_ge (pc := 133) 139 dX10_redeem_133 (by decide) (fun z => absurd z (by decide)) (fun _ => ?_)
      refine X_bipush (pc := 136) (x := (-3)) dX10_redeem_136 (by decide) ?_
      refine X_ireturn (pc := 138) dX10_redeem_138 rfl (Nat.le_of_ble_eq_true rfl) (Nat.le_of_ble_eq_true rfl) ?_
      subst hPost
      exact ⟨_, rfl, rfl, MRep.of w1 ms1⟩
    rw [hlo] at hPost
    have hPost : RI (MQ3 A X (if T.length ≠ 98 + N1 (150 + k) then (-2, N1, L1) else cIf (rightB N1 T k) (sSpend N1 L1 T) (-4, N1, L1))) = Post := by
      rw [← hPost, hrB]
      show _ = RI (MQ3 A X (if T.length ≠ 98 + N (150 + k) then _ else _))
      rw [show 150 + k = 100 + (50 + k) by omega, hn1]
    have hk6 : k < 6 := Nat.lt_of_lt_of_le hk wf1'.1
    have bk : vp_in (nI k) 6 := vp_in_nI hk6 (by decide)
    have ck : (nI k).toNatClampNeg = k := nI_clamp (by omega)
    have km := ms1.kk hk
    have ko := wf1'.kk hk
    have i68 : I 68 k = nI (N1 (150 + k)) := km.2.2.2.1
    have l256 : N1 (150 + k) ≤ 256 := by
      rcases ko.2.2.2 with z | z
      · omega
      · omega
    refine X_iload_n (pc := 132) 1 dX10_redeem_132 rfl rfl ?_
    refine X_if_ge (pc := 133) 139 dX10_redeem_133 (by decide) (fun _ => ?_) (fun z => absurd (nI_pos' (by omega)) z)
    refine X_iload_n (pc := 139) 2 dX10_redeem_139 rfl rfl ?_
    refine X_bipush (pc := 140) (x := 98) dX10_redeem_140 (by decide) ?_
    refine X_aload_n (pc := 142) 3 dX10_redeem_142 rfl rfl ?_
    refine X_getfield (pc := 143) dX10_redeem_143 fg_X10_510_11 (MW.ob w1) mf_68 ?_
    refine X_iload_n (pc := 146) 1 dX10_redeem_146 rfl rfl ?_
    refine X_iaload (pc := 147) dX10_redeem_147 (w1.i 68 rfl) bk ?_
    refine X_iadd (pc := 148) dX10_redeem_148 ?_
    rw [ck, i68, show (98 : Int32) + nI (N1 (150 + k)) = nI (98 + N1 (150 + k)) from nI_add 98 _]
    by_cases c6 : T.length = 98 + N1 (150 + k)
    rotate_left
    · rw [if_pos c6] at hPost
      refine X_icmp_eq (pc := 149) 155 dX10_redeem_149 (by decide) (fun z => absurd (nI_inj' (by omega) (by omega) z) c6) (fun _ => ?_)
      refine X_bipush (pc := 152) (x := (-2)) dX10_redeem_152 (by decide) ?_
      refine X_ireturn (pc := 154) dX10_redeem_154 rfl (Nat.le_of_ble_eq_true rfl) (Nat.le_of_ble_eq_true rfl) ?_
      subst hPost
      exact ⟨_, rfl, rfl, MRep.of w1 ms1⟩
    rw [if_neg (fun z => z c6)] at hPost
    refine X_icmp_eq (pc := 149) 155 dX10_redeem_149 (by decide) (fun _ => ?_) (fun z => absurd (by rw [c6]) z)
    refine X_aload_n (pc := 155) 3 dX10_redeem_155 rfl rfl ?_
    refine X_iload_n (pc := 156) 1 dX10_redeem_156 rfl rfl ?_
    refine X_ivi (pc := 157) _ dX10_redeem_157 cv_X10_707_11 (MW.ob w1) rfl (isRight_ok g wf1' w1 ms1 hk s81 c6 hB0) nX10_isRight (Nat.le_of_ble_eq_true rfl) (Nat.le_of_ble_eq_true rfl) (Nat.le_of_ble_eq_true rfl) (Nat.le_of_ble_eq_true rfl) (fun r2 h2 q2 => ?_)
    obtain ⟨R2, I2, S2, F2, w2, fr2, hq⟩ := q2
    have ms2 := fr2.ms wf1' ms1
    rcases hq with ⟨rfl, hr⟩ | ⟨rfl, hr⟩
    · rw [cIf_t hr] at hPost
      refine X_if_ne (pc := 160) 166 dX10_redeem_160 (by decide) (fun _ => ?_) (fun z => absurd z (by decide))
      rw [← hPost]
      exact spend_ok g wf1' w2 ms2 (by rw [fr2.2.2.1 81 (by unfold relS; omega)]; exact s81) (by omega) hB0 _ _ _
    · rw [cIf_f hr] at hPost
      refine X_if_ne (pc := 160) 166 dX10_redeem_160 (by decide) (fun z => absurd rfl z) (fun _ => ?_)
      refine X_bipush (pc := 163) (x := (-4)) dX10_redeem_163 (by decide) ?_
      refine X_ireturn (pc := 165) dX10_redeem_165 rfl (Nat.le_of_ble_eq_true rfl) (Nat.le_of_ble_eq_true rfl) ?_
      subst hPost
      exact ⟨_, rfl, rfl, MRep.of w2 ms2⟩
  have loop : ∀ m, m ≤ N1 0 → ∀ f, FndS (idP N1 L1 T) m (N1 0) f → XX g MX10_redeem ({ frames := 10, cells := 0, slots := 0, locals := 231 } : Room) Post 0 0 33 [(3, .int (nI m - 1)), (2, .int f), (1, .int (nI T.length)), (0, .ref (A 96))] [] h1 := by
    intro m
    induction m with
    | zero =>
      intro _ f hf
      refine X_iload_n (pc := 33) 0 dX10_redeem_33 rfl rfl ?_
      exact X_if_lt (pc := 34) 132 dX10_redeem_34 (by decide) (fun _ => fin f hf _) (fun z => absurd (show nI 0 - 1 < 0 by decide) z)
    | succ m ih =>
      intro hm f hf
      rw [nI_pred]
      have km := ms1.kk (show m < N1 0 by omega)
      have ko := wf1'.kk (show m < N1 0 by omega)
      have bm : vp_in (nI m) 6 := vp_in_nI (by omega) (by decide)
      have cm : (nI m).toNatClampNeg = m := nI_clamp (by omega)
      have hidl : (L1 (100 + m)).length = 32 := ko.2.1
      have hids : ∀ j, j < 32 → (S 63).getD (32 * m + j) 0 = (L1 (100 + m)).getD j 0 := by
        intro j hj
        have := km.2.2.1
        rw [up_ne (by decide)] at this
        rw [← this]
        unfold sub
        rw [getD_map_range hj]
      have hpd : idP N1 L1 T m = true ↔ (N1 (110 + m) = 1 ∧ T.getD 0 0 = 0 ∧ T.getD 1 0 = nI (N1 (100 + m))) ∧ ∀ j, j < 32 → (L1 (100 + m)).getD j 0 = T.getD (66 + j) 0 := by
        unfold idP
        rw [Bool.and_eq_true, Bool.and_eq_true, Bool.and_eq_true, beq_iff_eq, beq_iff_eq, beq_iff_eq, beq_iff_eq, sub_eq_l hidl]
        exact ⟨fun z => ⟨⟨z.1.1.1, z.1.1.2, z.1.2⟩, z.2⟩, fun z => ⟨⟨⟨z.1.1, z.1.2.1⟩, z.1.2.2⟩, z.2⟩⟩
      generalize hbase : (N1 (110 + m) = 1 ∧ T.getD 0 0 = 0 ∧ T.getD 1 0 = nI (N1 (100 + m))) = base at *
      obtain ⟨p, hp⟩ : ∃ p : Nat → Prop, p = fun j => base ∧ (L1 (100 + m)).getD j 0 = T.getD (66 + j) 0 := ⟨_, rfl⟩
      have nxt : ∀ f' v4 v5, FndS (idP N1 L1 T) m (N1 0) f' → XX g MX10_redeem ({ frames := 10, cells := 0, slots := 0, locals := 231 } : Room) Post 0 0 126 [(5, .int v5), (4, .int v4), (3, .int (nI m)), (2, .int f'), (1, .int (nI T.length)), (0, .ref (A 96))] [] h1 := by
        intro f' v4 v5 hf'
        refine X_iinc (pc := 126) (L' := [(3, .int (_ + (-1))), (5, .int _), (4, .int _), (2, .int _), (1, .int _), (0, .ref _)]) 2 dX10_redeem_126 rfl rfl (Nat.le_of_ble_eq_true rfl) rfl ?_
        refine X_goto (pc := 129) 33 dX10_redeem_129 (by decide) ?_
        rw [m1]
        refine XX.pick (L' := [(3, .int _), (2, .int _), (1, .int _), (0, .ref _)]) [0, 3, 4, 5] rfl ?_
        exact ih (by omega) f' hf'
      have inner : ∀ c i, i + c = 32 → ∀ v, Agr p i 32 v → (¬ v = 0 → base) → XX g MX10_redeem ({ frames := 10, cells := 0, slots := 0, locals := 231 } : Room) Post 0 0 69 [(5, .int (nI i)), (4, .int v), (3, .int (nI m)), (2, .int f), (1, .int (nI T.length)), (0, .ref (A 96))] [] h1 := by
        intro c
        induction c with
        | zero =>
          intro i hi v hv hvb
          have ei : i = 32 := by omega
          subst ei
          refine X_iload (pc := 69) 0 dX10_redeem_69 rfl ?_
          refine X_bipush (pc := 71) (x := 32) dX10_redeem_71 (by decide) ?_
          refine X_cge (a := 32) (b := 32) (pc := 73) 119 dX10_redeem_73 (by decide) (by omega) (by omega) (fun _ => ?_) (fun z => absurd z (by omega))
          refine X_iload (pc := 119) 1 dX10_redeem_119 rfl ?_
          rcases hv with ⟨rfl, hv⟩ | ⟨rfl, j, hj, hv⟩
          · refine X_if_eq (pc := 121) 126 dX10_redeem_121 (by decide) (fun z => absurd z (by decide)) (fun _ => ?_)
            have hy : idP N1 L1 T m = true := hpd.mpr ⟨by have := hv 0 (by decide); rw [hp] at this; exact this.1, fun j hj => by have := hv j hj; rw [hp] at this; exact this.2⟩
            refine X_iload_n (pc := 124) 2 dX10_redeem_124 rfl rfl ?_
            refine X_istore_n (pc := 125) (L' := [(2, .int _), (5, .int _), (4, .int _), (3, .int _), (1, .int _), (0, .ref _)]) dX10_redeem_125 rfl (Nat.le_of_ble_eq_true rfl) rfl ?_
            refine XX.pick (L' := [(5, .int _), (4, .int _), (3, .int _), (2, .int _), (1, .int _), (0, .ref _)]) [1, 2, 3, 0, 4, 5] rfl ?_
            exact nxt _ _ _ (FndS.hit (by omega) hy)
          · refine X_if_eq (pc := 121) 126 dX10_redeem_121 (by decide) (fun _ => nxt f _ _ (hf.step ?_)) (fun z => absurd rfl z)
            rw [← Bool.not_eq_true]
            intro z
            rw [hp] at hv
            exact hv ⟨(hpd.mp z).1, (hpd.mp z).2 j hj⟩
        | succ c ihc =>
          intro i hi v hv hvb
          have no : ∀ v' : Int32, Agr p (i + 1) 32 0 → XX g MX10_redeem ({ frames := 10, cells := 0, slots := 0, locals := 231 } : Room) Post 0 0 110 [(5, .int (nI i)), (4, .int v'), (3, .int (nI m)), (2, .int f), (1, .int (nI T.length)), (0, .ref (A 96))] [] h1 := by
            intro v' ha
            refine X_iconst (pc := 110) (x := 0) dX10_redeem_110 (by decide) ?_
            refine X_istore (pc := 111) (L' := [(4, .int _), (5, .int _), (3, .int _), (2, .int _), (1, .int _), (0, .ref _)]) dX10_redeem_111 (Nat.le_of_ble_eq_true rfl) rfl ?_
            refine X_iinc (pc := 113) (L' := [(5, .int (_ + 1)), (4, .int _), (3, .int _), (2, .int _), (1, .int _), (0, .ref _)]) 1 dX10_redeem_113 rfl rfl (Nat.le_of_ble_eq_true rfl) rfl ?_
            refine X_goto (pc := 116) 69 dX10_redeem_116 (by decide) ?_
            rw [show nI i + 1 = nI (i + 1) from nI_add i 1]
            refine XX.pick (L' := [(5, .int _), (4, .int _), (3, .int _), (2, .int _), (1, .int _), (0, .ref _)]) [0, 1, 2, 3, 4, 5] rfl ?_
            exact ihc (i + 1) (by omega) 0 ha (fun z => absurd rfl z)
          refine X_iload (pc := 69) 0 dX10_redeem_69 rfl ?_
          refine X_bipush (pc := 71) (x := 32) dX10_redeem_71 (by decide) ?_
          refine X_cge (b := 32) (pc := 73) 119 dX10_redeem_73 (by decide) (by omega) (by omega) (fun z => absurd z (by omega)) (fun _ => ?_)
          refine X_iload (pc := 76) 1 dX10_redeem_76 rfl ?_
          by_cases c1 : v = 0
          · exact X_if_eq (pc := 78) 110 dX10_redeem_78 (by decide) (fun _ => no _ (hv.no c1)) (fun z => absurd c1 z)
          refine X_if_eq (pc := 78) 110 dX10_redeem_78 (by decide) (fun z => absurd z c1) (fun _ => ?_)
          have b7 : vp_in (nI (32 * m + i)) 192 := vp_in_nI (by omega) (by omega)
          have c7 : (nI (32 * m + i)).toNatClampNeg = 32 * m + i := nI_clamp (by omega)
          have b8' : vp_in (nI (66 + i)) 1208 := vp_in_nI (by omega) (by omega)
          have c8' : (nI (66 + i)).toNatClampNeg = 66 + i := nI_clamp (by omega)
          refine X_aload_n (pc := 81) 5 dX10_redeem_81 rfl rfl ?_
          refine X_getfield (pc := 82) dX10_redeem_82 fg_X10_499_11 (MW.ob w1) mf_63 ?_
          refine X_bipush (pc := 85) (x := 32) dX10_redeem_85 (by decide) ?_
          refine X_iload_n (pc := 87) 2 dX10_redeem_87 rfl rfl ?_
          refine X_imul (pc := 88) dX10_redeem_88 ?_
          refine X_iload (pc := 89) 0 dX10_redeem_89 rfl ?_
          refine X_iadd (pc := 91) dX10_redeem_91 ?_
          rw [show (32 : Int32) * nI m = nI (32 * m) from pk_mul 32 m, nI_add]
          refine X_baload (pc := 92) dX10_redeem_92 c63 b7 ?_
          refine X_aload_n (pc := 93) 5 dX10_redeem_93 rfl rfl ?_
          refine X_getfield (pc := 94) dX10_redeem_94 fg_X10_534_11 (MW.ob w1) mf_81 ?_
          refine X_bipush (pc := 97) (x := 66) dX10_redeem_97 (by decide) ?_
          refine X_iload (pc := 99) 0 dX10_redeem_99 rfl ?_
          refine X_iadd (pc := 101) dX10_redeem_101 ?_
          rw [show (66 : Int32) + nI i = nI (66 + i) from nI_add 66 i]
          refine X_baload (pc := 102) dX10_redeem_102 c81 b8' ?_
          rw [c7, c8', p63 _ (by omega), p81 _ (by omega), hids i (by omega)]
          have hbs : base := hvb c1
          by_cases c2 : (L1 (100 + m)).getD i 0 = T.getD (66 + i) 0
          · refine X_icmp_ne (pc := 103) 110 dX10_redeem_103 (by decide) (fun z => absurd c2 z) (fun _ => ?_)
            refine X_iconst (pc := 106) (x := 1) dX10_redeem_106 (by decide) ?_
            refine X_goto (pc := 107) 111 dX10_redeem_107 (by decide) ?_
            refine X_istore (pc := 111) (L' := [(4, .int _), (5, .int _), (3, .int _), (2, .int _), (1, .int _), (0, .ref _)]) dX10_redeem_111 (Nat.le_of_ble_eq_true rfl) rfl ?_
            refine X_iinc (pc := 113) (L' := [(5, .int (_ + 1)), (4, .int _), (3, .int _), (2, .int _), (1, .int _), (0, .ref _)]) 1 dX10_redeem_113 rfl rfl (Nat.le_of_ble_eq_true rfl) rfl ?_
            refine X_goto (pc := 116) 69 dX10_redeem_116 (by decide) ?_
            rw [show nI i + 1 = nI (i + 1) from nI_add i 1]
            refine XX.pick (L' := [(5, .int _), (4, .int _), (3, .int _), (2, .int _), (1, .int _), (0, .ref _)]) [0, 1, 2, 3, 4, 5] rfl ?_
            exact ihc (i + 1) (by omega) 1 (hv.yes c1 (by rw [hp]; exact ⟨hbs, c2⟩)) (fun _ => hbs)
          · exact X_icmp_ne (pc := 103) 110 dX10_redeem_103 (by decide) (fun _ => no _ (Or.inr ⟨rfl, i, by omega, by rw [hp]; exact fun z => c2 z.2⟩)) (fun z => absurd z c2)
      have no0 : ¬ base → XX g MX10_redeem ({ frames := 10, cells := 0, slots := 0, locals := 231 } : Room) Post 0 0 63 [(3, .int (nI m)), (2, .int f), (1, .int (nI T.length)), (0, .ref (A 96))] [] h1 := by
        intro hb
        refine X_iconst (pc := 63) (x := 0) dX10_redeem_63 (by decide) ?_
        refine X_istore (pc := 64) (L' := [(4, .int _), (3, .int _), (2, .int _), (1, .int _), (0, .ref _)]) dX10_redeem_64 (Nat.le_of_ble_eq_true rfl) rfl ?_
        refine X_iconst (pc := 66) (x := 0) dX10_redeem_66 (by decide) ?_
        refine X_istore (pc := 67) (L' := [(5, .int _), (4, .int _), (3, .int _), (2, .int _), (1, .int _), (0, .ref _)]) dX10_redeem_67 (Nat.le_of_ble_eq_true rfl) rfl ?_
        exact inner 32 0 (by omega) 0 (Or.inr ⟨rfl, 0, by decide, by rw [hp]; exact fun z => hb z.1⟩) (fun z => absurd rfl z)
      refine X_iload_n (pc := 33) 0 dX10_redeem_33 rfl rfl ?_
      refine X_if_lt (pc := 34) 132 dX10_redeem_34 (by decide) (fun z => absurd z (nI_pos (by omega))) (fun _ => ?_)
      refine X_aload_n (pc := 37) 3 dX10_redeem_37 rfl rfl ?_
      refine X_getfield (pc := 38) dX10_redeem_38 fg_X10_495_11 (MW.ob w1) mf_62 ?_
      refine X_iload_n (pc := 41) 0 dX10_redeem_41 rfl rfl ?_
      refine X_zaload (pc := 42) dX10_redeem_42 (w1.i 62 rfl) bm ?_
      rw [cm, km.2.1]
      rcases nI_z1 ko.1 with ⟨e1, e2⟩ | ⟨e1, e2⟩
      rotate_left
      · rw [e2]
        exact X_if_eq (pc := 43) 63 dX10_redeem_43 (by decide) (fun _ => no0 (fun z => by rw [← hbase] at z; exact absurd z.1 (beq_eq_false_iff_ne.mp e1))) (fun z => absurd rfl z)
      rw [e2]
      refine X_if_eq (pc := 43) 63 dX10_redeem_43 (by decide) (fun z => absurd z (by decide)) (fun _ => ?_)
      refine X_aload_n (pc := 46) 3 dX10_redeem_46 rfl rfl ?_
      refine X_aload_n (pc := 47) 3 dX10_redeem_47 rfl rfl ?_
      refine X_getfield (pc := 48) dX10_redeem_48 fg_X10_492_11 (MW.ob w1) mf_61 ?_
      refine X_iload_n (pc := 51) 0 dX10_redeem_51 rfl rfl ?_
      refine X_iaload (pc := 52) dX10_redeem_52 (w1.i 61 rfl) bm ?_
      rw [cm, km.1]
      refine X_ivi (pc := 53) _ dX10_redeem_53 cv_X10_658_11 (MW.ob w1) rfl (isType_ok g w1 s81 (by omega) (nI (N1 (100 + m)))) nX10_isType (Nat.le_of_ble_eq_true rfl) (Nat.le_of_ble_eq_true rfl) (Nat.le_of_ble_eq_true rfl) (Nat.le_of_ble_eq_true rfl) (fun r2 h2 q2 => ?_)
      obtain ⟨rfl, hq⟩ := q2
      rcases hq with ⟨rfl, hz, h1t⟩ | ⟨rfl, hno⟩
      rotate_left
      · exact X_if_eq (pc := 56) 63 dX10_redeem_56 (by decide) (fun _ => no0 (fun z => by rw [← hbase] at z; exact hno ⟨z.2.1, z.2.2⟩)) (fun z => absurd rfl z)
      refine X_if_eq (pc := 56) 63 dX10_redeem_56 (by decide) (fun z => absurd z (by decide)) (fun _ => ?_)
      refine X_iconst (pc := 59) (x := 1) dX10_redeem_59 (by decide) ?_
      refine X_goto (pc := 60) 64 dX10_redeem_60 (by decide) ?_
      refine X_istore (pc := 64) (L' := [(4, .int _), (3, .int _), (2, .int _), (1, .int _), (0, .ref _)]) dX10_redeem_64 (Nat.le_of_ble_eq_true rfl) rfl ?_
      refine X_iconst (pc := 66) (x := 0) dX10_redeem_66 (by decide) ?_
      refine X_istore (pc := 67) (L' := [(5, .int _), (4, .int _), (3, .int _), (2, .int _), (1, .int _), (0, .ref _)]) dX10_redeem_67 (Nat.le_of_ble_eq_true rfl) rfl ?_
      exact inner 32 0 (by omega) 1 (Or.inl ⟨rfl, fun j hj => by omega⟩) (fun _ => by rw [← hbase]; exact ⟨beq_iff_eq.mp e1, hz, h1t⟩)
  refine X_iconst (pc := 24) (x := (-1)) dX10_redeem_24 (by decide) ?_
  refine X_istore_n (pc := 25) (L' := [(2, .int _), (1, .int _), (0, .ref _)]) dX10_redeem_25 rfl (Nat.le_of_ble_eq_true rfl) rfl ?_
  refine X_aload_n (pc := 26) 2 dX10_redeem_26 rfl rfl ?_
  refine X_getfield (pc := 27) dX10_redeem_27 fg_X10_626_11 (MW.ob w1) mf_70 ?_
  refine X_iconst (pc := 30) (x := 1) dX10_redeem_30 (by decide) ?_
  refine X_isub (pc := 31) dX10_redeem_31 ?_
  refine X_istore_n (pc := 32) (L' := [(3, .int _), (2, .int _), (1, .int _), (0, .ref _)]) dX10_redeem_32 rfl (Nat.le_of_ble_eq_true rfl) rfl ?_
  rw [f70]
  exact loop (N1 0) (Nat.le_refl _) (-1) (FndS.start _ _)
end MRe
