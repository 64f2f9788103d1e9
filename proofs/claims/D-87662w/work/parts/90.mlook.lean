set_option maxRecDepth 100000
/-! the reference: looks -/
section MC5
variable {A : Nat → Nat} {X : AH} {R : Nat → Nat} {I : Nat → Nat → Int32} {S : Nat → List Int32} {F : Nat → Int32} {h : AH} {N : Nat → Nat} {L : Nat → List Int32}
/-- the first bytes of a row: as a point's, as a number's -/
theorem MW.encS (w : MW A X R I S F h) (k : Nat) {n : Nat} (hk : kdM k = (6, 2, n)) (hn : 49 ≤ n) (x y : Nat) {f : Nat → Int32} : MW A X R I (up S k (encB x y)) F (hset h (A k) (Ai false 2 n (encF x y 0 f))) :=
  w.setS k hk (fun j hj => by
    rw [encB_len] at hj
    unfold encB
    rw [getD_map_range hj]
    exact encF_cg (Nat.zero_le _) (by omega)) (by rw [encB_len]; exact hn)
theorem MW.stoS (w : MW A X R I S F h) (k : Nat) {n : Nat} (hk : kdM k = (6, 2, n)) (v size : Nat) (hn : size ≤ n) {f : Nat → Int32} : MW A X R I (up S k (byN v size)) F (hset h (A k) (Ai false 2 n (stF v 0 size f))) :=
  w.setS k hk (fun j hj => by
    unfold byN at hj ⊢
    rw [osB_len] at hj
    rw [byte_le hj]
    unfold stF
    rw [if_pos (by omega), Nat.zero_add]) (by unfold byN; rw [osB_len]; exact hn)
theorem byN_len (v n : Nat) : (byN v n).length = n := osB_len v n
theorem byN_B (v n : Nat) : IsB (byN v n) := osB_B v n
theorem KOk.two {k : Nat} (ko : KOk N L k) (h : N (100 + k) ≠ 1) : N (100 + k) = 2 ∧ 66 ≤ N (150 + k) ∧ N (150 + k) ≤ 256 ∧ limN N k = (N (150 + k) + 3) / 4 ∧ N (140 + k) ≤ 65537 ∧ 3 ≤ N (140 + k) ∧ (N (160 + k) = 0 ∨ N (160 + k) = 48) := by
  rcases ko.2.2.2 with z | z
  · exact absurd z.1 h
  · obtain ⟨t, a, b, c, d, e, f, f2, f3, f4, f5⟩ := z
    refine ⟨t, d, e, ?_, f4, f3, ?_⟩
    · unfold limN
      rw [if_neg h]
    · rcases f5 with q | ⟨q, -⟩
      · exact Or.inl q
      · exact Or.inr q
theorem MoS.V {k n mv : Nat} (hk : k < 6) (m : MoS I F (2 + k) n mv) : V n (I (510 + (2 + k))) = mv := by
  rcases m with ⟨z, -, -⟩ | ⟨z, -, -⟩ | ⟨-, -, s', -, -, -, z, -⟩
  · omega
  · omega
  · exact z
set_option maxHeartbeats 4000000 in
theorem lookc_ok (g : GX) (wf : Wf N L) (m : MRep N L A X h) (k wh : Int32) : MT g MX10_look ({ frames := 2, cells := 0, slots := 0, locals := 46 } : Room) [.ref (A 96), .int k, .int wh] h (RI (MQ3 A X (sLook N L k wh))) := by
  obtain ⟨R, I, S, F, w, ms⟩ := m
  refine MT.of (by decide) (Nat.le_of_ble_eq_true rfl) ?_
  have ms1 := ms.thr ⟨wf.1, wf.2.1⟩ 0
  have f70 : (up F 0 0) 70 = nI (N 0) := by rw [up_ne (by decide)]; exact ms.f70
  have s63l : (S 63).length = 192 := ms.2.2.2.2.2.2.1
  have s63B : IsB (S 63) := ms.2.2.2.2.2.2.2.1
  generalize hPost : RI (MQ3 A X (sLook N L k wh)) = Post
  refine X_aload_n (pc := 0) 0 dX10_look_0 rfl rfl ?_
  refine X_iconst (pc := 1) (x := 0) dX10_look_1 (by decide) ?_
  refine X_putfield (pc := 2) dX10_look_2 fp_X10_1_11 (fun e => by cases e) (MW.ob w) rfl rfl (Nat.le_of_ble_eq_true rfl) ?_
  have w1 := w.setF0 (v := 0)
  generalize hset h (A 96) (Ob 11 ((mFl A F).set 0 (.int 0))) = h1 at *
  have no : (noK N k ∨ wh < 0 ∨ 4 < wh) → XX g MX10_look ({ frames := 2, cells := 0, slots := 0, locals := 46 } : Room) Post 0 0 22 [(0, .ref (A 96)), (1, .int k), (2, .int wh)] [] h1 := by
    intro hc
    refine X_aload_n (pc := 22) 0 dX10_look_22 rfl rfl ?_
    refine X_iconst (pc := 23) (x := 1) dX10_look_23 (by decide) ?_
    refine X_putfield (pc := 24) dX10_look_24 fp_X10_1_11 (fun e => by cases e) (MW.ob w1) rfl rfl (Nat.le_of_ble_eq_true rfl) ?_
    have w2 := w1.setF0 (v := 1)
    refine X_iconst (pc := 27) (x := 0) dX10_look_27 (by decide) ?_
    refine X_ireturn (pc := 28) dX10_look_28 rfl (Nat.le_of_ble_eq_true rfl) (Nat.le_of_ble_eq_true rfl) ?_
    subst hPost
    have e : sLook N L k wh = (0, up N 6 1, L) := if_pos hc
    rw [e]
    exact ⟨0, rfl, rfl, _, _, _, _, w2, by rw [up_up']; exact ms.thr ⟨wf.1, wf.2.1⟩ 1⟩
  refine X_aload_n (pc := 5) 0 dX10_look_5 rfl rfl ?_
  refine X_iload_n (pc := 6) 1 dX10_look_6 rfl rfl ?_
  refine X_ivi (pc := 7) _ dX10_look_7 cv_X10_636_11 (MW.ob w1) rfl (noKey_ok g w1 f70 k) nX10_noKey (Nat.le_of_ble_eq_true rfl) (Nat.le_of_ble_eq_true rfl) (Nat.le_of_ble_eq_true rfl) (Nat.le_of_ble_eq_true rfl) (fun r1 h2 q1 => ?_)
  obtain ⟨rfl, rfl⟩ := q1
  by_cases c1 : noK N k
  · rw [if_pos c1]
    exact X_if_ne (pc := 10) 22 dX10_look_10 (by decide) (fun _ => no (Or.inl c1)) (fun z => absurd z (by decide))
  rw [if_neg c1]
  refine X_if_ne (pc := 10) 22 dX10_look_10 (by decide) (fun z => absurd rfl z) (fun _ => ?_)
  refine X_iload_n (pc := 13) 2 dX10_look_13 rfl rfl ?_
  by_cases c2 : wh < 0
  · exact X_if_lt (pc := 14) 22 dX10_look_14 (by decide) (fun _ => no (Or.inr (Or.inl c2))) (fun z => absurd c2 z)
  refine X_if_lt (pc := 14) 22 dX10_look_14 (by decide) (fun z => absurd z c2) (fun _ => ?_)
  refine X_iload_n (pc := 17) 2 dX10_look_17 rfl rfl ?_
  refine X_iconst (pc := 18) (x := 4) dX10_look_18 (by decide) ?_
  by_cases c3 : 4 < wh
  · exact X_icmp_le (pc := 19) 29 dX10_look_19 (by decide) (fun z => absurd c3 (Int32.not_lt.mpr z)) (fun _ => no (Or.inr (Or.inr c3)))
  refine X_icmp_le (pc := 19) 29 dX10_look_19 (by decide) (fun _ => ?_) (fun z => absurd (Int32.not_lt.mp c3) z)
  obtain ⟨j, hj, rfl⟩ := noK_ex wf.1 c1
  have hj6 : j < 6 := Nat.lt_of_lt_of_le hj wf.1
  have bj : vp_in (nI j) 6 := vp_in_nI (by omega) (by omega)
  have cj : (nI j).toNatClampNeg = j := nI_clamp (by omega)
  have km := ms.kk hj
  have ko := wf.kk hj
  have esn : sLook N L (nI j) wh = if wh = 0 then (32, up N 6 0, up L 1 (L (100 + j))) else if wh = 1 then (nI (pubB N j).length, up N 6 0, up L 1 (pubB N j)) else if wh = 2 then (nI (N (100 + j)), up N 6 0, L) else if wh = 3 then (nI (N (110 + j)), up N 6 0, L) else (nI (N (150 + j)), up N 6 0, L) := by
    unfold sLook
    rw [if_neg (fun z => z.elim c1 fun z => z.elim c2 c3), cj]
  rcases pk_ix wh (show 5 < 2 ^ 31 by decide) with z | z | ⟨q, hq, rfl⟩
  · exact absurd z c2
  · exact absurd (Int32.lt_of_lt_of_le (by decide) z) c3
  refine X_iload_n (pc := 29) 2 dX10_look_29 rfl rfl ?_
  obtain rfl | rfl | rfl | rfl | rfl : q = 0 ∨ q = 1 ∨ q = 2 ∨ q = 3 ∨ q = 4 := by omega
  · refine X_tableIn (pc := 30) 60 dX10_look_30 (by decide) (by decide) rfl (by decide) ?_
    have hid : sub (S 63) (32 * j) 32 = L (100 + j) := km.2.2.1
    have hidd : sub (S 63) (32 * j) 32 = (List.range 32).map fun q => (S 63).getD (32 * j + q) 0 := rfl
    have loop : ∀ m i, i + m = 32 → ∀ h', MW A X R I (up S 83 ((List.range i).map fun q => (S 63).getD (32 * j + q) 0)) (up F 0 0) h' →
        XX g MX10_look ({ frames := 2, cells := 0, slots := 0, locals := 46 } : Room) Post 0 0 62 [(3, .int (nI i)), (0, .ref (A 96)), (1, .int (nI j)), (2, .int (nI 0))] [] h' := by
      intro m
      induction m with
      | zero =>
        intro i hi h' w'
        have e : i = 32 := by omega
        subst e
        rw [← hidd, hid] at w'
        refine X_iload_n (pc := 62) 0 dX10_look_62 rfl rfl ?_
        refine X_bipush (pc := 63) (x := 32) dX10_look_63 (by decide) ?_
        refine X_cge (a := 32) (b := 32) (pc := 65) 91 dX10_look_65 (by decide) (by omega) (by omega) (fun _ => ?_) (fun z => absurd z (by omega))
        refine X_aload_n (pc := 91) 1 dX10_look_91 rfl rfl ?_
        refine X_bipush (pc := 92) (x := 32) dX10_look_92 (by decide) ?_
        refine X_putfield (pc := 94) dX10_look_94 fp_X10_606_11 (fun e => by cases e) (MW.ob w') rfl rfl (Nat.le_of_ble_eq_true rfl) ?_
        have w2 := w'.setF84 (v := 32)
        refine X_bipush (pc := 97) (x := 32) dX10_look_97 (by decide) ?_
        refine X_ireturn (pc := 99) dX10_look_99 rfl (Nat.le_of_ble_eq_true rfl) (Nat.le_of_ble_eq_true rfl) ?_
        subst hPost
        rw [esn]
        have ms2 := ms1.out (wf1 wf (by decide)) (L (100 + j))
        rw [ko.2.1] at ms2
        exact ⟨_, rfl, rfl, _, _, _, _, w2, ms2⟩
      | succ m ih =>
        intro i hi h' w'
        obtain ⟨f63, c63, p63, -⟩ := w'.s 63 rfl
        obtain ⟨f83, c83, p83, -⟩ := w'.s 83 rfl
        rw [up_ne (by decide)] at p63
        rw [up_same] at p83
        have hli : ((List.range i).map fun q => (S 63).getD (32 * j + q) 0).length = i := by rw [List.length_map, List.length_range]
        have bi : vp_in (nI i) 2900 := vp_in_nI (by omega) (by omega)
        have ci : (nI i).toNatClampNeg = i := nI_clamp (by omega)
        have b6 : vp_in (nI (32 * j + i)) 192 := vp_in_nI (by omega) (by omega)
        have c6 : (nI (32 * j + i)).toNatClampNeg = 32 * j + i := nI_clamp (by omega)
        refine X_iload_n (pc := 62) 0 dX10_look_62 rfl rfl ?_
        refine X_bipush (pc := 63) (x := 32) dX10_look_63 (by decide) ?_
        refine X_cge (b := 32) (pc := 65) 91 dX10_look_65 (by decide) (by omega) (by omega) (fun z => absurd z (by omega)) (fun _ => ?_)
        refine X_aload_n (pc := 68) 1 dX10_look_68 rfl rfl ?_
        refine X_getfield (pc := 69) dX10_look_69 fg_X10_537_11 (MW.ob w') mf_83 ?_
        refine X_iload_n (pc := 72) 0 dX10_look_72 rfl rfl ?_
        refine X_aload_n (pc := 73) 1 dX10_look_73 rfl rfl ?_
        refine X_getfield (pc := 74) dX10_look_74 fg_X10_499_11 (MW.ob w') mf_63 ?_
        refine X_bipush (pc := 77) (x := 32) dX10_look_77 (by decide) ?_
        refine X_iload_n (pc := 79) 2 dX10_look_79 rfl rfl ?_
        refine X_imul (pc := 80) dX10_look_80 ?_
        refine X_iload_n (pc := 81) 0 dX10_look_81 rfl rfl ?_
        refine X_iadd (pc := 82) dX10_look_82 ?_
        rw [show (32 : Int32) * nI j = nI (32 * j) from pk_mul 32 j, nI_add]
        refine X_baload (pc := 83) dX10_look_83 c63 b6 ?_
        refine X_bastore (pc := 84) dX10_look_84 c83 bi ?_
        rw [ci, c6, p63 _ (by omega), s63B.nar]
        have w2 := w'.setS 83 rfl (PL_app (x := (S 63).getD (32 * j + i) 0) p83 hli.symm) (by rw [List.length_append, hli]; exact (show i + 1 ≤ 2900 by omega))
        rw [up_up', ← List.map_singleton (f := fun q => (S 63).getD (32 * j + q) 0), ← List.map_append, ← List.range_succ] at w2
        refine X_iinc (pc := 85) (L' := [(3, .int (_ + 1)), (0, .ref _), (1, .int _), (2, .int _)]) 0 dX10_look_85 rfl rfl (Nat.le_of_ble_eq_true rfl) rfl ?_
        refine X_goto (pc := 88) 62 dX10_look_88 (by decide) ?_
        rw [show nI i + 1 = nI (i + 1) from nI_add i 1]
        exact ih (i + 1) (by omega) _ w2
    refine X_iconst (pc := 60) (x := 0) dX10_look_60 (by decide) ?_
    refine X_istore_n (pc := 61) (L' := [(3, .int _), (0, .ref _), (1, .int _), (2, .int _)]) dX10_look_61 rfl (Nat.le_of_ble_eq_true rfl) rfl ?_
    exact loop 32 0 (by omega) h2 (w1.cutS 83 rfl)
  · refine X_tableIn (pc := 30) 100 dX10_look_30 (by decide) (by decide) rfl (by decide) ?_
    have fin : ∀ (h' : AH) (L' : List (Nat × Value)), L'[0]? = some (0, .ref (A 96)) ∨ L'[1]? = some (0, .ref (A 96)) → MW A X R I (up S 83 (pubB N j)) (up (up F 0 0) 84 (nI (pubB N j).length)) h' → XX g MX10_look ({ frames := 2, cells := 0, slots := 0, locals := 46 } : Room) Post 0 0 209 L' [] h' := by
      intro h' L' hL w'
      have body : XX g MX10_look ({ frames := 2, cells := 0, slots := 0, locals := 46 } : Room) Post 0 0 210 L' [.ref (A 96)] h' := by
        refine X_getfield (pc := 210) dX10_look_210 fg_X10_606_11 (MW.ob w') mf_84 ?_
        rw [up_same]
        refine X_ireturn (pc := 213) dX10_look_213 rfl (Nat.le_of_ble_eq_true rfl) (Nat.le_of_ble_eq_true rfl) ?_
        subst hPost
        rw [esn]
        exact ⟨_, rfl, rfl, _, _, _, _, w', ms1.out (wf1 wf (by decide)) (pubB N j)⟩
      rcases hL with hL | hL
      · exact X_aload_n (pc := 209) 0 dX10_look_209 rfl hL body
      · exact X_aload_n (pc := 209) 1 dX10_look_209 rfl hL body
    refine X_aload_n (pc := 100) 0 dX10_look_100 rfl rfl ?_
    refine X_getfield (pc := 101) dX10_look_101 fg_X10_492_11 (MW.ob w1) mf_61 ?_
    refine X_iload_n (pc := 104) 1 dX10_look_104 rfl rfl ?_
    refine X_iaload (pc := 105) dX10_look_105 (w1.i 61 rfl) bj ?_
    refine X_iconst (pc := 106) (x := 1) dX10_look_106 (by decide) ?_
    rw [cj, km.1]
    by_cases t1 : N (100 + j) = 1
    · refine X_icmp_ne (pc := 107) 133 dX10_look_107 (by decide) (fun z => absurd (by rw [t1]; rfl) z) (fun _ => ?_)
      obtain ⟨so, sp, -⟩ := km.2.2.2.2.1 t1
      obtain ⟨f83, c83, -, -⟩ := w1.s 83 rfl
      have hpub : pubB N j = encB (R (200 + (25 + j))) (R (300 + (25 + j))) := by
        unfold pubB
        rw [if_pos t1, ← sp, en_spt so.1 so.2.1 (w.lt (kd_y (by omega)))]
      refine X_aload_n (pc := 110) 0 dX10_look_110 rfl rfl ?_
      refine X_getfield (pc := 111) dX10_look_111 fg_X10_458_11 (MW.ob w1) mf_65 ?_
      refine X_iload_n (pc := 114) 1 dX10_look_114 rfl rfl ?_
      refine X_aaload (pc := 115) dX10_look_115 (w1.o 65 rfl) (fun _ => rfl) bj ?_
      refine X_aload_n (pc := 116) 0 dX10_look_116 rfl rfl ?_
      refine X_getfield (pc := 117) dX10_look_117 fg_X10_537_11 (MW.ob w1) mf_83 ?_
      refine X_iconst (pc := 120) (x := 0) dX10_look_120 (by decide) ?_
      rw [cj]
      refine XX.eqst (st' := [.int 0, .ref (A 83), .ref (A (400 + (25 + j)))]) (by rw [show 400 + (25 + j) = 425 + j by omega]; rfl) ?_
      refine X_isv (pc := 121) _ dX10_look_121 cs_X10_405 rfl (bytes_ok g w1 (s := 25 + j) (at' := 0) (by omega) c83 (by decide) (by decide)) nX10_bytes (Nat.le_of_ble_eq_true rfl) (Nat.le_of_ble_eq_true rfl) (Nat.le_of_ble_eq_true rfl) (Nat.le_of_ble_eq_true rfl) (fun h3 q3 => ?_)
      subst q3
      have w3 := w1.encS 83 rfl (by decide) (R (200 + (25 + j))) (R (300 + (25 + j))) (f := f83)
      rw [← hpub] at w3
      generalize hset h2 (A 83) _ = h3 at *
      refine X_aload_n (pc := 124) 0 dX10_look_124 rfl rfl ?_
      refine X_bipush (pc := 125) (x := 49) dX10_look_125 (by decide) ?_
      refine X_putfield (pc := 127) dX10_look_127 fp_X10_606_11 (fun e => by cases e) (MW.ob w3) rfl rfl (Nat.le_of_ble_eq_true rfl) ?_
      have w4 := w3.setF84 (v := 49)
      refine X_goto (pc := 130) 209 dX10_look_130 (by decide) ?_
      refine fin _ _ (Or.inl rfl) ?_
      rw [show nI (pubB N j).length = 49 by rw [hpub, encB_len]; rfl]
      exact w4
    · refine X_icmp_ne (pc := 107) 133 dX10_look_107 (by decide) (fun _ => ?_) (fun z => ?_)
      rotate_left
      · obtain ⟨t2, -⟩ := ko.two t1
        rw [t2] at z
        exact absurd z (by decide)
      obtain ⟨t2, l1, l2, hlim, e1, e2, -⟩ := ko.two t1
      obtain ⟨sh, hsh, mo, f1, f2, hb, he, -, -⟩ := km.2.2.2.2.2 t2
      have hV := mo.V hj6
      have hmd := w1.md (j := 2 + j) (by omega) (by omega)
      have cm := w1.i (510 + (2 + j)) (kd_m (j := 2 + j) (by omega) (by omega)).2.1
      obtain ⟨f83, c83, -, -⟩ := w1.s 83 rfl
      have hlen : I 68 j = nI (N (150 + j)) := km.2.2.2.1
      refine X_aload_n (pc := 133) 0 dX10_look_133 rfl rfl ?_
      refine X_getfield (pc := 134) dX10_look_134 fg_X10_503_11 (MW.ob w1) mf_66 ?_
      refine X_iload_n (pc := 137) 1 dX10_look_137 rfl rfl ?_
      refine X_aaload (pc := 138) dX10_look_138 (w1.o 66 rfl) (fun _ => rfl) bj ?_
      rw [cj]
      refine XX.eqst (st' := [.ref (A (500 + (2 + j)))]) (by rw [show 500 + (2 + j) = 502 + j by omega]; rfl) ?_
      refine X_getfield (pc := 139) dX10_look_139 fg_X10_22_12 hmd (by first | rfl | assumption) ?_
      refine X_aload_n (pc := 142) 0 dX10_look_142 rfl rfl ?_
      refine X_getfield (pc := 143) dX10_look_143 fg_X10_537_11 (MW.ob w1) mf_83 ?_
      refine X_iconst (pc := 146) (x := 0) dX10_look_146 (by decide) ?_
      refine X_aload_n (pc := 147) 0 dX10_look_147 rfl rfl ?_
      refine X_getfield (pc := 148) dX10_look_148 fg_X10_510_11 (MW.ob w1) mf_68 ?_
      refine X_iload_n (pc := 151) 1 dX10_look_151 rfl rfl ?_
      refine X_iaload (pc := 152) dX10_look_152 (w1.i 68 rfl) bj ?_
      rw [cj, hlen]
      refine X_isv (pc := 153) _ dX10_look_153 cs_X10_232 rfl (store_ok g (n := limN N j) (fr := 0) (many := N (150 + j)) cm c83 (by omega) (by decide) (by omega) (by decide) (by omega)) nX10_store (Nat.le_of_ble_eq_true rfl) (Nat.le_of_ble_eq_true rfl) (Nat.le_of_ble_eq_true rfl) (Nat.le_of_ble_eq_true rfl) (fun h3 q3 => ?_)
      subst q3
      rw [hV]
      have w3 := w1.stoS 83 rfl (N (130 + j)) (N (150 + j)) (by omega) (f := f83)
      generalize hset h2 (A 83) _ = h3 at *
      generalize hlN : N (150 + j) = len at *
      generalize heN : N (140 + j) = e at *
      have hpub : pubB N j = byN (N (130 + j)) len ++ (List.range 3).map fun q => tb (e / 2 ^ (16 - 8 * q)) := by
        unfold pubB
        rw [if_neg t1, hlN, heN]
        congr 1
        show _ = [tb (e / 2 ^ 16), tb (e / 2 ^ 8), tb (e / 2 ^ 0)]
        rw [show e / 2 ^ 0 = e from Nat.div_one e]
      have hbl := byN_len (N (130 + j)) len
      have loop : ∀ m i, i + m = 3 → ∀ h', MW A X R I (up S 83 (byN (N (130 + j)) len ++ (List.range i).map fun q => tb (e / 2 ^ (16 - 8 * q)))) (up F 0 0) h' →
          XX g MX10_look ({ frames := 2, cells := 0, slots := 0, locals := 46 } : Room) Post 0 0 158 [(3, .int (nI i)), (0, .ref (A 96)), (1, .int (nI j)), (2, .int (nI 1))] [] h' := by
        intro m
        induction m with
        | zero =>
          intro i hi h' w'
          have ei : i = 3 := by omega
          subst ei
          rw [← hpub] at w'
          refine X_iload_n (pc := 158) 0 dX10_look_158 rfl rfl ?_
          refine X_iconst (pc := 159) (x := 3) dX10_look_159 (by decide) ?_
          refine X_cge (a := 3) (b := 3) (pc := 160) 197 dX10_look_160 (by decide) (by omega) (by omega) (fun _ => ?_) (fun z => absurd z (by omega))
          refine X_aload_n (pc := 197) 1 dX10_look_197 rfl rfl ?_
          refine X_aload_n (pc := 198) 1 dX10_look_198 rfl rfl ?_
          refine X_getfield (pc := 199) dX10_look_199 fg_X10_510_11 (MW.ob w') mf_68 ?_
          refine X_iload_n (pc := 202) 2 dX10_look_202 rfl rfl ?_
          refine X_iaload (pc := 203) dX10_look_203 (w'.i 68 rfl) bj ?_
          refine X_iconst (pc := 204) (x := 3) dX10_look_204 (by decide) ?_
          refine X_iadd (pc := 205) dX10_look_205 ?_
          rw [cj, hlen, show nI len + 3 = nI (len + 3) from nI_add len 3]
          refine X_putfield (pc := 206) dX10_look_206 fp_X10_606_11 (fun e => by cases e) (MW.ob w') rfl rfl (Nat.le_of_ble_eq_true rfl) ?_
          have w4 := w'.setF84 (v := nI (len + 3))
          refine fin _ _ (Or.inr rfl) ?_
          rw [show (pubB N j).length = len + 3 by rw [hpub, List.length_append, hbl]; rfl]
          exact w4
        | succ m ih =>
          intro i hi h' w'
          obtain ⟨f83, c83, p83, -⟩ := w'.s 83 rfl
          rw [up_same] at p83
          have hli : (byN (N (130 + j)) len ++ (List.range i).map fun q => tb (e / 2 ^ (16 - 8 * q))).length = len + i := by rw [List.length_append, hbl, List.length_map, List.length_range]
          have bi : vp_in (nI (len + i)) 2900 := vp_in_nI (by omega) (by omega)
          have ci : (nI (len + i)).toNatClampNeg = len + i := nI_clamp (by omega)
          refine X_iload_n (pc := 158) 0 dX10_look_158 rfl rfl ?_
          refine X_iconst (pc := 159) (x := 3) dX10_look_159 (by decide) ?_
          refine X_cge (b := 3) (pc := 160) 197 dX10_look_160 (by decide) (by omega) (by omega) (fun z => absurd z (by omega)) (fun _ => ?_)
          refine X_aload_n (pc := 163) 1 dX10_look_163 rfl rfl ?_
          refine X_getfield (pc := 164) dX10_look_164 fg_X10_537_11 (MW.ob w') mf_83 ?_
          refine X_aload_n (pc := 167) 1 dX10_look_167 rfl rfl ?_
          refine X_getfield (pc := 168) dX10_look_168 fg_X10_510_11 (MW.ob w') mf_68 ?_
          refine X_iload_n (pc := 171) 2 dX10_look_171 rfl rfl ?_
          refine X_iaload (pc := 172) dX10_look_172 (w'.i 68 rfl) bj ?_
          refine X_iload_n (pc := 173) 0 dX10_look_173 rfl rfl ?_
          refine X_iadd (pc := 174) dX10_look_174 ?_
          rw [cj, hlen, nI_add]
          refine X_aload_n (pc := 175) 1 dX10_look_175 rfl rfl ?_
          refine X_getfield (pc := 176) dX10_look_176 fg_X10_507_11 (MW.ob w') mf_67 ?_
          refine X_iload_n (pc := 179) 2 dX10_look_179 rfl rfl ?_
          refine X_iaload (pc := 180) dX10_look_180 (w'.i 67 rfl) bj ?_
          refine X_bipush (pc := 181) (x := 16) dX10_look_181 (by decide) ?_
          refine X_bipush (pc := 183) (x := 8) dX10_look_183 (by decide) ?_
          refine X_iload_n (pc := 185) 0 dX10_look_185 rfl rfl ?_
          refine X_imul (pc := 186) dX10_look_186 ?_
          refine X_isub (pc := 187) dX10_look_187 ?_
          rw [cj, he, show (8 : Int32) * nI i = nI (8 * i) from pk_mul 8 i, show (16 : Int32) - nI (8 * i) = nI (16 - 8 * i) from pk_sub (a := 16) (by omega)]
          refine X_ishr (pc := 188) dX10_look_188 ?_
          refine X_i2b (pc := 189) dX10_look_189 ?_
          rw [pk_shrN (by omega) _ _ (sl_n (16 - 8 * i) (by omega)), toInt8_low, tb_u]
          refine X_bastore (pc := 190) dX10_look_190 c83 bi ?_
          rw [ci, tb8]
          have w2 := w'.setS 83 rfl (PL_app (x := tb (e / 2 ^ (16 - 8 * i))) p83 hli.symm) (by rw [List.length_append, hli]; exact (show len + i + 1 ≤ 2900 by omega))
          rw [up_up', List.append_assoc, ← List.map_singleton (f := fun q => tb (e / 2 ^ (16 - 8 * q))), ← List.map_append, ← List.range_succ] at w2
          refine X_iinc (pc := 191) (L' := [(3, .int (_ + 1)), (0, .ref _), (1, .int _), (2, .int _)]) 0 dX10_look_191 rfl rfl (Nat.le_of_ble_eq_true rfl) rfl ?_
          refine X_goto (pc := 194) 158 dX10_look_194 (by decide) ?_
          rw [show nI i + 1 = nI (i + 1) from nI_add i 1]
          exact ih (i + 1) (by omega) _ w2
      refine X_iconst (pc := 156) (x := 0) dX10_look_156 (by decide) ?_
      refine X_istore_n (pc := 157) (L' := [(3, .int _), (0, .ref _), (1, .int _), (2, .int _)]) dX10_look_157 rfl (Nat.le_of_ble_eq_true rfl) rfl ?_
      exact loop 3 0 (by omega) h3 (by rw [List.range_zero, List.map_nil, List.append_nil]; exact w3)
  · refine X_tableIn (pc := 30) 214 dX10_look_30 (by decide) (by decide) rfl (by decide) ?_
    refine X_aload_n (pc := 214) 0 dX10_look_214 rfl rfl ?_
    refine X_getfield (pc := 215) dX10_look_215 fg_X10_492_11 (MW.ob w1) mf_61 ?_
    refine X_iload_n (pc := 218) 1 dX10_look_218 rfl rfl ?_
    refine X_iaload (pc := 219) dX10_look_219 (w1.i 61 rfl) bj ?_
    rw [cj, km.1]
    refine X_ireturn (pc := 220) dX10_look_220 rfl (Nat.le_of_ble_eq_true rfl) (Nat.le_of_ble_eq_true rfl) ?_
    subst hPost
    rw [esn]
    exact ⟨_, rfl, rfl, _, _, _, _, w1, ms1⟩
  · refine X_tableIn (pc := 30) 221 dX10_look_30 (by decide) (by decide) rfl (by decide) ?_
    refine X_aload_n (pc := 221) 0 dX10_look_221 rfl rfl ?_
    refine X_getfield (pc := 222) dX10_look_222 fg_X10_495_11 (MW.ob w1) mf_62 ?_
    refine X_iload_n (pc := 225) 1 dX10_look_225 rfl rfl ?_
    refine X_zaload (pc := 226) dX10_look_226 (w1.i 62 rfl) bj ?_
    rw [cj, km.2.1]
    rcases nI_z1 ko.1 with ⟨-, e2⟩ | ⟨-, e2⟩
    · rw [e2]
      refine X_if_eq (pc := 227) 234 dX10_look_227 (by decide) (fun z => absurd z (by decide)) (fun _ => ?_)
      refine X_iconst (pc := 230) (x := 1) dX10_look_230 (by decide) ?_
      refine X_goto (pc := 231) 235 dX10_look_231 (by decide) ?_
      refine X_ireturn (pc := 235) dX10_look_235 rfl (Nat.le_of_ble_eq_true rfl) (Nat.le_of_ble_eq_true rfl) ?_
      subst hPost
      rw [esn]
      exact ⟨_, rfl, e2.symm, _, _, _, _, w1, ms1⟩
    · rw [e2]
      refine X_if_eq (pc := 227) 234 dX10_look_227 (by decide) (fun _ => ?_) (fun z => absurd rfl z)
      refine X_iconst (pc := 234) (x := 0) dX10_look_234 (by decide) ?_
      refine X_ireturn (pc := 235) dX10_look_235 rfl (Nat.le_of_ble_eq_true rfl) (Nat.le_of_ble_eq_true rfl) ?_
      subst hPost
      rw [esn]
      exact ⟨_, rfl, e2.symm, _, _, _, _, w1, ms1⟩
  · refine X_tableOut (pc := 30) 236 dX10_look_30 (Or.inr (by decide)) (by decide) ?_
    refine X_aload_n (pc := 236) 0 dX10_look_236 rfl rfl ?_
    refine X_getfield (pc := 237) dX10_look_237 fg_X10_510_11 (MW.ob w1) mf_68 ?_
    refine X_iload_n (pc := 240) 1 dX10_look_240 rfl rfl ?_
    refine X_iaload (pc := 241) dX10_look_241 (w1.i 68 rfl) bj ?_
    rw [cj, km.2.2.2.1]
    refine X_ireturn (pc := 242) dX10_look_242 rfl (Nat.le_of_ble_eq_true rfl) (Nat.le_of_ble_eq_true rfl) ?_
    subst hPost
    rw [esn]
    exact ⟨_, rfl, rfl, _, _, _, _, w1, ms1⟩
end MC5
