set_option maxRecDepth 100000
/-! the reference: a key comes -/
/-- a row into which others were laid -/
def lay (l : List Int32) (at' : Nat) (src : List Int32) (i : Nat) : List Int32 := (List.range l.length).map fun j => if at' ≤ j ∧ j < at' + i then src.getD (j - at') 0 else l.getD j 0
theorem lay_len (l : List Int32) (at' : Nat) (src : List Int32) (i : Nat) : (lay l at' src i).length = l.length := by unfold lay; rw [List.length_map, List.length_range]
theorem lay_at {l : List Int32} {at' : Nat} {src : List Int32} {i j : Nat} (hj : j < l.length) : (lay l at' src i).getD j 0 = if at' ≤ j ∧ j < at' + i then src.getD (j - at') 0 else l.getD j 0 := getD_map_range hj
theorem lay_0 (l : List Int32) (at' : Nat) (src : List Int32) : lay l at' src 0 = l := by
  unfold lay
  rw [show (fun j => if at' ≤ j ∧ j < at' + 0 then src.getD (j - at') 0 else l.getD j 0) = fun j => l.getD j 0 from funext fun j => if_neg (by omega)]
  exact map_getD rfl
theorem lay_set {l : List Int32} {at' : Nat} {src : List Int32} {i : Nat} : (lay l at' src i).set (at' + i) (src.getD i 0) = lay l at' src (i + 1) := by
  apply List.ext_getElem?
  intro j
  unfold lay
  rw [List.getElem?_set, List.getElem?_map, List.getElem?_map, List.length_map, List.length_range]
  by_cases hj : j < l.length
  · rw [List.getElem?_range hj, Option.map_some, Option.map_some]
    by_cases e : at' + i = j
    · subst e
      rw [if_pos rfl, if_pos hj, if_pos (by omega), Nat.add_sub_cancel_left]
    · rw [if_neg e]
      by_cases c : at' ≤ j ∧ j < at' + i
      · rw [if_pos c, if_pos (by omega)]
      · rw [if_neg c, if_neg (by omega)]
  · rw [List.getElem?_eq_none (by rw [List.length_range]; omega)]
    by_cases e : at' + i = j
    · subst e
      rw [if_pos rfl, if_neg hj]
      rfl
    · rw [if_neg e]
      rfl
theorem lay_B {l src : List Int32} {at' i : Nat} (h1 : IsB l) (h2 : IsB src) : IsB (lay l at' src i) := fun x hx => by
  unfold lay at hx
  obtain ⟨q, -, rfl⟩ := List.mem_map.mp hx
  split
  · exact h2.at' _
  · exact h1.at' _
theorem lay_sub {l src : List Int32} {at' n : Nat} (hl : at' + n ≤ l.length) (hs : src.length = n) : sub (lay l at' src n) at' n = src := by
  rw [← map_getD hs]
  unfold sub
  apply List.map_congr_left
  intro j hj
  have := List.mem_range.mp hj
  rw [lay_at (by omega), if_pos (by omega), Nat.add_sub_cancel_left, map_getD hs]
theorem lay_off {l src : List Int32} {at' n b m : Nat} (hb : b + m ≤ l.length) (hd : b + m ≤ at' ∨ at' + n ≤ b) : sub (lay l at' src n) b m = sub l b m := by
  unfold sub
  apply List.map_congr_left
  intro j hj
  have := List.mem_range.mp hj
  rw [lay_at (by omega), if_neg (by omega)]
section MK
variable {A : Nat → Nat} {X : AH} {R R' : Nat → Nat} {I I' : Nat → Nat → Int32} {S S' : Nat → List Int32} {F F' : Nat → Int32} {h : AH} {N : Nat → Nat} {L : Nat → List Int32}
/-- what may differ behind keyId -/
def iK (j : Nat) : Bool := j == 25 || j == 27 || j == 56 || j == 85 || j == 63
theorem iK_ne {j k : Nat} (h : iK j = false) (hk : iK k = true) : j ≠ k := fun e => by rw [e, hk] at h; cases h
/-- what keyId says: of type 1, of type 2 -/
def KSay (A : Nat → Nat) (R : Nat → Nat) (I : Nat → Nat → Int32) (F : Nat → Int32) (key : Nat) (kb : List Int32) : Prop :=
  (I 61 key = 1 ∧ kb = encB (R (200 + (25 + key))) (R (300 + (25 + key)))) ∨
  (I 61 key = 2 ∧ ∃ n m e s len, n ≤ 64 ∧ len ≤ 256 ∧ len ≤ 4 * n ∧ V n (I (510 + (2 + key))) = m ∧ I 68 key = nI len ∧ I 67 key = nI e ∧ I 69 key = nI s ∧ e < 2 ^ 24 ∧ s < 2 ^ 8 ∧ kb = byN m len ++ [tb (e / 65536), tb (e / 256), tb e] ++ [tb s])
set_option maxHeartbeats 2000000 in
theorem keyId_ok (g : GX) (w : MW A X R I S F h) {key : Nat} {kb : List Int32} (hkey : key < 6) (hs63 : (S 63).length = 192) (hsay : KSay A R I F key kb) :
    MT g MX10_keyId ({ frames := 3, cells := 0, slots := 0, locals := 74 } : Room) [.ref (A 96), .int (nI key)] h (RV fun h' => ∃ S', MW A X R I S' (up F 26 0) h' ∧ (∀ j, iK j = false → S' j = S j) ∧ S' 63 = lay (S 63) (32 * key) (sha256 kb) 32) := by
  refine MT.of (by decide) (Nat.le_of_ble_eq_true rfl) ?_
  generalize hPost : (RV fun h' => ∃ S', MW A X R I S' (up F 26 0) h' ∧ (∀ j, iK j = false → S' j = S j) ∧ S' 63 = lay (S 63) (32 * key) (sha256 kb) 32) = Post
  have bk : vp_in (nI key) 6 := vp_in_nI (by omega) (by omega)
  have ck : (nI key).toNatClampNeg = key := nI_clamp (by omega)
  have hdB := sha256_B kb
  have hdl := sha256_len kb
  -- the digest is laid among the ids
  have fin : ∀ S1 h1, SW A X R I S1 F kb h1 → kb.length + 72 ≤ 2600 → (∀ j, iK j = false → S1 j = S j) → S1 63 = S 63 →
      XX g MX10_keyId ({ frames := 3, cells := 0, slots := 0, locals := 74 } : Room) Post 0 0 114 [(0, .ref (A 96)), (1, .int (nI key))] [] h1 := by
    intro S1 h1 w1 hkb fS s63
    refine X_aload_n (pc := 114) 0 dX10_keyId_114 rfl rfl ?_
    refine X_ivv (pc := 115) _ dX10_keyId_115 cv_X10_609_11 (MW.ob w1) rfl (h2_ok g w1 hkb) nX10_h2 (Nat.le_of_ble_eq_true rfl) (Nat.le_of_ble_eq_true rfl) (Nat.le_of_ble_eq_true rfl) (Nat.le_of_ble_eq_true rfl) (fun h2 w2' => ?_)
    have w2 : MW A X R I (up (up S1 27 (sha256 kb)) 25 []) (up F 26 0) h2 := w2'
    generalize hd : sha256 kb = d at *
    have t27 : (up (up S1 27 d) 25 []) 27 = d := by rw [up_ne (by decide), up_same]
    have t63 : (up (up S1 27 d) 25 []) 63 = S 63 := by rw [up_ne (by decide), up_ne (by decide)]; exact s63
    have fS2 : ∀ j, iK j = false → (up (up S1 27 d) 25 []) j = S j := fun j hj => by rw [up_ne (iK_ne hj rfl), up_ne (iK_ne hj rfl)]; exact fS j hj
    generalize up (up S1 27 d) 25 [] = S2 at *
    have loop : ∀ m i, i + m = 32 → ∀ h', MW A X R I (up S2 63 (lay (S 63) (32 * key) d i)) (up F 26 0) h' →
        XX g MX10_keyId ({ frames := 3, cells := 0, slots := 0, locals := 74 } : Room) Post 0 0 120 [(2, .int (nI i)), (0, .ref (A 96)), (1, .int (nI key))] [] h' := by
      intro m
      induction m with
      | zero =>
        intro i hi h' w'
        have e : i = 32 := by omega
        subst e
        refine X_iload_n (pc := 120) 0 dX10_keyId_120 rfl rfl ?_
        refine X_bipush (pc := 121) (x := 32) dX10_keyId_121 (by decide) ?_
        refine X_cge (a := 32) (b := 32) (pc := 123) 149 dX10_keyId_123 (by decide) (by omega) (by omega) (fun _ => ?_) (fun z => absurd z (by omega))
        subst hPost
        refine X_return (pc := 149) dX10_keyId_149 rfl (Nat.le_of_ble_eq_true rfl) (Nat.le_of_ble_eq_true rfl) ?_
        refine ⟨rfl, _, w', fun j hj => ?_, up_same _ _ _⟩
        rw [up_ne (iK_ne hj rfl)]
        exact fS2 j hj
      | succ m ih =>
        intro i hi h' w'
        obtain ⟨f63, c63, p63, -⟩ := w'.s 63 rfl
        obtain ⟨f27, c27, p27, -⟩ := w'.s 27 rfl
        rw [up_same] at p63
        rw [up_ne (by decide), t27] at p27
        have hll := lay_len (S 63) (32 * key) d i
        have bi : vp_in (nI (32 * key + i)) 192 := vp_in_nI (by omega) (by omega)
        have ci : (nI (32 * key + i)).toNatClampNeg = 32 * key + i := nI_clamp (by omega)
        have b6 : vp_in (nI i) 48 := vp_in_nI (by omega) (by omega)
        have c6 : (nI i).toNatClampNeg = i := nI_clamp (by omega)
        refine X_iload_n (pc := 120) 0 dX10_keyId_120 rfl rfl ?_
        refine X_bipush (pc := 121) (x := 32) dX10_keyId_121 (by decide) ?_
        refine X_cge (b := 32) (pc := 123) 149 dX10_keyId_123 (by decide) (by omega) (by omega) (fun z => absurd z (by omega)) (fun _ => ?_)
        refine X_aload_n (pc := 126) 1 dX10_keyId_126 rfl rfl ?_
        refine X_getfield (pc := 127) dX10_keyId_127 fg_X10_499_11 (MW.ob w') mf_63 ?_
        refine X_bipush (pc := 130) (x := 32) dX10_keyId_130 (by decide) ?_
        refine X_iload_n (pc := 132) 2 dX10_keyId_132 rfl rfl ?_
        refine X_imul (pc := 133) dX10_keyId_133 ?_
        refine X_iload_n (pc := 134) 0 dX10_keyId_134 rfl rfl ?_
        refine X_iadd (pc := 135) dX10_keyId_135 ?_
        rw [show (32 : Int32) * nI key = nI (32 * key) from pk_mul 32 key, nI_add]
        refine X_aload_n (pc := 136) 1 dX10_keyId_136 rfl rfl ?_
        refine X_getfield (pc := 137) dX10_keyId_137 fg_X10_283_11 (MW.ob w') mf_27 ?_
        refine X_iload_n (pc := 140) 0 dX10_keyId_140 rfl rfl ?_
        refine X_baload (pc := 141) dX10_keyId_141 c27 b6 ?_
        refine X_bastore (pc := 142) dX10_keyId_142 c63 bi ?_
        rw [ci, c6, p27 i (by omega), hdB.nar]
        have w3 := w'.setS 63 rfl (PL_set p63 (32 * key + i) (d.getD i 0)) (by rw [List.length_set, hll, hs63]; decide)
        rw [up_up', lay_set] at w3
        refine X_iinc (pc := 143) (L' := [(2, .int (_ + 1)), (0, .ref _), (1, .int _)]) 0 dX10_keyId_143 rfl rfl (Nat.le_of_ble_eq_true rfl) rfl ?_
        refine X_goto (pc := 146) 120 dX10_keyId_146 (by decide) ?_
        rw [show nI i + 1 = nI (i + 1) from nI_add i 1]
        exact ih (i + 1) (by omega) _ w3
    refine X_iconst (pc := 118) (x := 0) dX10_keyId_118 (by decide) ?_
    refine X_istore_n (pc := 119) (L' := [(2, .int _), (0, .ref _), (1, .int _)]) dX10_keyId_119 rfl (Nat.le_of_ble_eq_true rfl) rfl ?_
    refine loop 32 0 (by omega) h2 ?_
    rw [lay_0, ← t63, up_id]
    exact w2
  refine X_aload_n (pc := 0) 0 dX10_keyId_0 rfl rfl ?_
  refine X_iconst (pc := 1) (x := 0) dX10_keyId_1 (by decide) ?_
  refine X_putfield (pc := 2) dX10_keyId_2 fp_X10_243_11 (fun e => by cases e) (MW.ob w) rfl rfl (Nat.le_of_ble_eq_true rfl) ?_
  have w1 := w.cut0
  generalize hset h (A 96) (Ob 11 ((mFl A F).set 26 (.int 0))) = h1 at *
  have w1' : MW A X R I (up S 25 []) (up F 26 (nI 0)) h1 := w1
  refine X_aload_n (pc := 5) 0 dX10_keyId_5 rfl rfl ?_
  refine X_getfield (pc := 6) dX10_keyId_6 fg_X10_492_11 (MW.ob w1') mf_61 ?_
  refine X_iload_n (pc := 9) 1 dX10_keyId_9 rfl rfl ?_
  refine X_iaload (pc := 10) dX10_keyId_10 (w1'.i 61 rfl) bk ?_
  refine X_iconst (pc := 11) (x := 1) dX10_keyId_11 (by decide) ?_
  rw [ck]
  rcases hsay with ⟨t, hkb⟩ | ⟨t, n, m, e, s, len, q1, q2, q3, q4, q5, q6, q7, q8, q9, hkb⟩
  · rw [t]
    refine X_icmp_ne (pc := 12) 43 dX10_keyId_12 (by decide) (fun z => absurd rfl z) (fun _ => ?_)
    obtain ⟨f56, c56, -, -⟩ := w1'.s 56 rfl
    refine X_aload_n (pc := 15) 0 dX10_keyId_15 rfl rfl ?_
    refine X_getfield (pc := 16) dX10_keyId_16 fg_X10_458_11 (MW.ob w1') mf_65 ?_
    refine X_iload_n (pc := 19) 1 dX10_keyId_19 rfl rfl ?_
    refine X_aaload (pc := 20) dX10_keyId_20 (w1'.o 65 rfl) (fun _ => rfl) bk ?_
    refine X_aload_n (pc := 21) 0 dX10_keyId_21 rfl rfl ?_
    refine X_getfield (pc := 22) dX10_keyId_22 fg_X10_402_11 (MW.ob w1') mf_56 ?_
    refine X_iconst (pc := 25) (x := 0) dX10_keyId_25 (by decide) ?_
    rw [ck]
    refine XX.eqst (st' := [.int 0, .ref (A 56), .ref (A (400 + (25 + key)))]) (by rw [show 400 + (25 + key) = 425 + key by omega]; rfl) ?_
    refine X_isv (pc := 26) _ dX10_keyId_26 cs_X10_405 rfl (bytes_ok g w1' (s := 25 + key) (at' := 0) (by omega) c56 (by decide) (by decide)) nX10_bytes (Nat.le_of_ble_eq_true rfl) (Nat.le_of_ble_eq_true rfl) (Nat.le_of_ble_eq_true rfl) (Nat.le_of_ble_eq_true rfl) (fun h2 z2 => ?_)
    subst z2
    have w2' := w1'.encS 56 rfl (by decide) (R (200 + (25 + key))) (R (300 + (25 + key))) (f := f56)
    rw [up_comm _ _ _ (show 25 ≠ 56 by decide), ← hkb] at w2'
    have hkl : kb.length = 49 := by rw [hkb]; exact encB_len _ _
    have hkB : IsB kb := by rw [hkb]; exact encB_B _ _
    generalize hset h1 (A 56) _ = h2 at *
    have w2 : SW A X R I (up S 56 kb) F [] h2 := w2'
    refine X_aload_n (pc := 29) 0 dX10_keyId_29 rfl rfl ?_
    refine X_aload_n (pc := 30) 0 dX10_keyId_30 rfl rfl ?_
    refine X_getfield (pc := 31) dX10_keyId_31 fg_X10_402_11 (MW.ob w2') mf_56 ?_
    refine X_iconst (pc := 34) (x := 0) dX10_keyId_34 (by decide) ?_
    refine X_bipush (pc := 35) (x := 49) dX10_keyId_35 (by decide) ?_
    refine X_ivv (pc := 37) _ dX10_keyId_37 cv_X10_325_11 (MW.ob w2) rfl (saysK g w2 (kb := 56) (at' := 0) (n := 49) rfl (by decide) (by decide) (by rw [up_same]; exact hkB) (by rw [up_same, hkl]; decide) (by decide)) nX10_say (Nat.le_of_ble_eq_true rfl) (Nat.le_of_ble_eq_true rfl) (Nat.le_of_ble_eq_true rfl) (Nat.le_of_ble_eq_true rfl) (fun h3 w3 => ?_)
    rw [up_same, sub_all hkl] at w3
    refine X_goto (pc := 40) 114 dX10_keyId_40 (by decide) ?_
    exact fin _ h3 w3 (by omega) (fun j hj => up_ne (iK_ne hj rfl)) (up_ne (by decide))
  · rw [t]
    refine X_icmp_ne (pc := 12) 43 dX10_keyId_12 (by decide) (fun _ => ?_) (fun z => absurd z (by decide))
    have hmd := w1'.md (j := 2 + key) (by omega) (by omega)
    have cm := w1'.i (510 + (2 + key)) (kd_m (j := 2 + key) (by omega) (by omega)).2.1
    obtain ⟨f85, c85, -, -⟩ := w1'.s 85 rfl
    refine X_aload_n (pc := 43) 0 dX10_keyId_43 rfl rfl ?_
    refine X_getfield (pc := 44) dX10_keyId_44 fg_X10_503_11 (MW.ob w1') mf_66 ?_
    refine X_iload_n (pc := 47) 1 dX10_keyId_47 rfl rfl ?_
    refine X_aaload (pc := 48) dX10_keyId_48 (w1'.o 66 rfl) (fun _ => rfl) bk ?_
    rw [ck]
    refine XX.eqst (st' := [.ref (A (500 + (2 + key)))]) (by rw [show 500 + (2 + key) = 502 + key by omega]; rfl) ?_
    refine X_getfield (pc := 49) dX10_keyId_49 fg_X10_22_12 hmd (by first | rfl | assumption) ?_
    refine X_aload_n (pc := 52) 0 dX10_keyId_52 rfl rfl ?_
    refine X_getfield (pc := 53) dX10_keyId_53 fg_X10_540_11 (MW.ob w1') mf_85 ?_
    refine X_iconst (pc := 56) (x := 0) dX10_keyId_56 (by decide) ?_
    refine X_aload_n (pc := 57) 0 dX10_keyId_57 rfl rfl ?_
    refine X_getfield (pc := 58) dX10_keyId_58 fg_X10_510_11 (MW.ob w1') mf_68 ?_
    refine X_iload_n (pc := 61) 1 dX10_keyId_61 rfl rfl ?_
    refine X_iaload (pc := 62) dX10_keyId_62 (w1'.i 68 rfl) bk ?_
    rw [ck, q5]
    refine X_isv (pc := 63) _ dX10_keyId_63 cs_X10_232 rfl (store_ok g (n := n) (fr := 0) (many := len) cm c85 q1 (by decide) (by omega) (by decide) q3) nX10_store (Nat.le_of_ble_eq_true rfl) (Nat.le_of_ble_eq_true rfl) (Nat.le_of_ble_eq_true rfl) (Nat.le_of_ble_eq_true rfl) (fun h2 z2 => ?_)
    subst z2
    rw [q4]
    have w2' := w1'.stoS 85 rfl m len (by omega) (f := f85)
    rw [up_comm _ _ _ (show 25 ≠ 85 by decide)] at w2'
    generalize hset h1 (A 85) _ = h2 at *
    have w2 : SW A X R I (up S 85 (byN m len)) F [] h2 := w2'
    refine X_aload_n (pc := 66) 0 dX10_keyId_66 rfl rfl ?_
    refine X_aload_n (pc := 67) 0 dX10_keyId_67 rfl rfl ?_
    refine X_getfield (pc := 68) dX10_keyId_68 fg_X10_540_11 (MW.ob w2') mf_85 ?_
    refine X_iconst (pc := 71) (x := 0) dX10_keyId_71 (by decide) ?_
    refine X_aload_n (pc := 72) 0 dX10_keyId_72 rfl rfl ?_
    refine X_getfield (pc := 73) dX10_keyId_73 fg_X10_510_11 (MW.ob w2') mf_68 ?_
    refine X_iload_n (pc := 76) 1 dX10_keyId_76 rfl rfl ?_
    refine X_iaload (pc := 77) dX10_keyId_77 (w2'.i 68 rfl) bk ?_
    rw [ck, q5]
    refine X_ivv (pc := 78) _ dX10_keyId_78 cv_X10_325_11 (MW.ob w2) rfl (saysK g w2 (kb := 85) (at' := 0) (n := len) rfl (by decide) (by decide) (by rw [up_same]; exact byN_B _ _) (by rw [up_same, byN_len]; omega) (by show 0 + _ ≤ 2600; omega)) nX10_say (Nat.le_of_ble_eq_true rfl) (Nat.le_of_ble_eq_true rfl) (Nat.le_of_ble_eq_true rfl) (Nat.le_of_ble_eq_true rfl) (fun h3 w3 => ?_)
    rw [up_same, sub_all (byN_len _ _)] at w3
    have hbl := byN_len m len
    have w3 : SW A X R I (up S 85 (byN m len)) F (byN m len) h3 := w3
    have w3' : MW A X R I (up (up S 85 (byN m len)) 25 (byN m len)) (up F 26 (nI (byN m len).length)) h3 := w3
    have e16 : nI e >>> ((16 : Int32) &&& 31) = nI (e / 65536) := pk_shrN (by omega) _ 16 (sl_n 16 (by decide))
    refine X_aload_n (pc := 81) 0 dX10_keyId_81 rfl rfl ?_
    refine X_aload_n (pc := 82) 0 dX10_keyId_82 rfl rfl ?_
    refine X_getfield (pc := 83) dX10_keyId_83 fg_X10_507_11 (MW.ob w3') mf_67 ?_
    refine X_iload_n (pc := 86) 1 dX10_keyId_86 rfl rfl ?_
    refine X_iaload (pc := 87) dX10_keyId_87 (w3'.i 67 rfl) bk ?_
    refine X_bipush (pc := 88) (x := 16) dX10_keyId_88 (by decide) ?_
    refine X_ishr (pc := 90) dX10_keyId_90 ?_
    rw [ck, q6, e16]
    refine X_ivv (pc := 91) _ dX10_keyId_91 cv_X10_246_11 (MW.ob w3) rfl (say_ok g w3 (by omega) _) nX10_say_2 (Nat.le_of_ble_eq_true rfl) (Nat.le_of_ble_eq_true rfl) (Nat.le_of_ble_eq_true rfl) (Nat.le_of_ble_eq_true rfl) (fun h4 w4 => ?_)
    rw [tb_u] at w4
    have w4' : MW A X R I (up (up S 85 (byN m len)) 25 (byN m len ++ [tb (e / 65536)])) (up F 26 (nI (byN m len ++ [tb (e / 65536)]).length)) h4 := w4
    have hl4 : (byN m len ++ [tb (e / 65536)]).length = len + 1 := by rw [List.length_append, hbl]; rfl
    refine X_aload_n (pc := 94) 0 dX10_keyId_94 rfl rfl ?_
    refine X_aload_n (pc := 95) 0 dX10_keyId_95 rfl rfl ?_
    refine X_getfield (pc := 96) dX10_keyId_96 fg_X10_507_11 (MW.ob w4') mf_67 ?_
    refine X_iload_n (pc := 99) 1 dX10_keyId_99 rfl rfl ?_
    refine X_iaload (pc := 100) dX10_keyId_100 (w4'.i 67 rfl) bk ?_
    rw [ck, q6]
    refine X_ivv (pc := 101) _ dX10_keyId_101 cv_X10_334_11 (MW.ob w4) rfl (both_ok g w4 (n := e) (by omega) (by omega)) nX10_both (Nat.le_of_ble_eq_true rfl) (Nat.le_of_ble_eq_true rfl) (Nat.le_of_ble_eq_true rfl) (Nat.le_of_ble_eq_true rfl) (fun h5 w5 => ?_)
    have w5' : MW A X R I (up (up S 85 (byN m len)) 25 (byN m len ++ [tb (e / 65536)] ++ [tb (e / 256), tb e])) (up F 26 (nI (byN m len ++ [tb (e / 65536)] ++ [tb (e / 256), tb e]).length)) h5 := w5
    have hl5 : (byN m len ++ [tb (e / 65536)] ++ [tb (e / 256), tb e]).length = len + 3 := by rw [List.length_append, hl4]; rfl
    refine X_aload_n (pc := 104) 0 dX10_keyId_104 rfl rfl ?_
    refine X_aload_n (pc := 105) 0 dX10_keyId_105 rfl rfl ?_
    refine X_getfield (pc := 106) dX10_keyId_106 fg_X10_513_11 (MW.ob w5') mf_69 ?_
    refine X_iload_n (pc := 109) 1 dX10_keyId_109 rfl rfl ?_
    refine X_iaload (pc := 110) dX10_keyId_110 (w5'.i 69 rfl) bk ?_
    rw [ck, q7]
    refine X_ivv (pc := 111) _ dX10_keyId_111 cv_X10_246_11 (MW.ob w5) rfl (say_ok g w5 (by omega) _) nX10_say_2 (Nat.le_of_ble_eq_true rfl) (Nat.le_of_ble_eq_true rfl) (Nat.le_of_ble_eq_true rfl) (Nat.le_of_ble_eq_true rfl) (fun h6 w6 => ?_)
    rw [tb_u] at w6
    have ekb : byN m len ++ [tb (e / 65536)] ++ [tb (e / 256), tb e] ++ [tb s] = kb := by rw [hkb, List.append_assoc (byN m len)]; rfl
    rw [ekb] at w6
    have hkl : kb.length = len + 4 := by rw [← ekb, List.length_append, hl5]; rfl
    exact fin _ h6 w6 (by omega) (fun j hj => up_ne (iK_ne hj rfl)) (up_ne (by decide))
set_option maxHeartbeats 1000000 in
theorem comes_ok (g : GX) (w : MW A X R I S F h) {k t : Nat} {kb : List Int32} (hk : k < 6) (h70 : F 70 = nI k) (hs63 : (S 63).length = 192) (hsay : KSay A R (up I 61 (upd (I 61) k (nI t))) F k kb) :
    MT g MX10_comes ({ frames := 4, cells := 0, slots := 0, locals := 96 } : Room) [.ref (A 96), .int (nI t)] h (RI fun r h' => r = nI k ∧ ∃ S', MW A X R (up (up I 61 (upd (I 61) k (nI t))) 62 (upd (I 62) k 1)) S' (up (up F 26 0) 70 (nI (k + 1))) h' ∧ (∀ j, iK j = false → S' j = S j) ∧ S' 63 = lay (S 63) (32 * k) (sha256 kb) 32) := by
  refine MT.of (by decide) (Nat.le_of_ble_eq_true rfl) ?_
  have bk : vp_in (nI k) 6 := vp_in_nI (by omega) (by omega)
  have ck : (nI k).toNatClampNeg = k := nI_clamp (by omega)
  refine X_aload_n (pc := 0) 0 dX10_comes_0 rfl rfl ?_
  refine X_getfield (pc := 1) dX10_comes_1 fg_X10_492_11 (MW.ob w) mf_61 ?_
  refine X_aload_n (pc := 4) 0 dX10_comes_4 rfl rfl ?_
  refine X_getfield (pc := 5) dX10_comes_5 fg_X10_626_11 (MW.ob w) mf_70 ?_
  rw [h70]
  refine X_iload_n (pc := 8) 1 dX10_comes_8 rfl rfl ?_
  refine X_iastore (pc := 9) dX10_comes_9 (w.i 61 rfl) bk ?_
  rw [ck]
  have w1 := w.setI 61 rfl (upd (I 61) k (nI t))
  generalize hset h (A 61) (Ai false 0 6 (upd (I 61) k (nI t))) = h1 at *
  have c62 := w1.i 62 rfl
  rw [up_ne (by decide)] at c62
  refine X_aload_n (pc := 10) 0 dX10_comes_10 rfl rfl ?_
  refine X_getfield (pc := 11) dX10_comes_11 fg_X10_495_11 (MW.ob w1) mf_62 ?_
  refine X_aload_n (pc := 14) 0 dX10_comes_14 rfl rfl ?_
  refine X_getfield (pc := 15) dX10_comes_15 fg_X10_626_11 (MW.ob w1) mf_70 ?_
  rw [h70]
  refine X_iconst (pc := 18) (x := 1) dX10_comes_18 (by decide) ?_
  refine X_zastore (pc := 19) dX10_comes_19 c62 bk ?_
  rw [ck]
  have w2 := w1.setI 62 rfl (upd (I 62) k 1)
  refine XX.eqh (h' := hset h1 (A 62) (Ai false 3 6 (upd (I 62) k 1))) rfl ?_
  generalize hset h1 (A 62) (Ai false 3 6 (upd (I 62) k 1)) = h2 at *
  have hsay2 : KSay A R (up (up I 61 (upd (I 61) k (nI t))) 62 (upd (I 62) k 1)) F k kb := by
    rcases hsay with ⟨a, b⟩ | ⟨a, n, m, e, s, len, q1, q2, q3, q4, q5, q6, q7, q8, q9, hkb⟩
    · exact Or.inl ⟨by rw [up_ne (by decide)]; exact a, b⟩
    · exact Or.inr ⟨by rw [up_ne (by decide)]; exact a, n, m, e, s, len, q1, q2, q3, by rw [up_ne (by omega)]; exact q4, by rw [up_ne (by decide)]; exact q5, by rw [up_ne (by decide)]; exact q6, by rw [up_ne (by decide)]; exact q7, q8, q9, hkb⟩
  refine X_aload_n (pc := 20) 0 dX10_comes_20 rfl rfl ?_
  refine X_aload_n (pc := 21) 0 dX10_comes_21 rfl rfl ?_
  refine X_getfield (pc := 22) dX10_comes_22 fg_X10_626_11 (MW.ob w2) mf_70 ?_
  rw [h70]
  refine X_ivv (pc := 25) _ dX10_comes_25 cv_X10_632_11 (MW.ob w2) rfl (keyId_ok g w2 hk hs63 hsay2) nX10_keyId (Nat.le_of_ble_eq_true rfl) (Nat.le_of_ble_eq_true rfl) (Nat.le_of_ble_eq_true rfl) (Nat.le_of_ble_eq_true rfl) (fun h3 q3 => ?_)
  obtain ⟨S3, w3, fS3, s63⟩ := q3
  have h70' : (up F 26 0) 70 = nI k := by rw [up_ne (by decide)]; exact h70
  refine X_aload_n (pc := 28) 0 dX10_comes_28 rfl rfl ?_
  refine X_dup (pc := 29) dX10_comes_29 rfl ?_
  refine X_getfield (pc := 30) dX10_comes_30 fg_X10_626_11 (MW.ob w3) mf_70 ?_
  refine X_iconst (pc := 33) (x := 1) dX10_comes_33 (by decide) ?_
  refine X_iadd (pc := 34) dX10_comes_34 ?_
  rw [h70', show nI k + 1 = nI (k + 1) from nI_add k 1]
  refine X_putfield (pc := 35) dX10_comes_35 fp_X10_626_11 (fun e => by cases e) (MW.ob w3) rfl rfl (Nat.le_of_ble_eq_true rfl) ?_
  have w4 := w3.setF70 (v := nI (k + 1))
  refine X_aload_n (pc := 38) 0 dX10_comes_38 rfl rfl ?_
  refine X_getfield (pc := 39) dX10_comes_39 fg_X10_626_11 (MW.ob w4) mf_70 ?_
  refine X_iconst (pc := 42) (x := 1) dX10_comes_42 (by decide) ?_
  refine X_isub (pc := 43) dX10_comes_43 ?_
  rw [up_same, nI_pred]
  refine X_ireturn (pc := 44) dX10_comes_44 rfl (Nat.le_of_ble_eq_true rfl) (Nat.le_of_ble_eq_true rfl) ?_
  exact ⟨_, rfl, rfl, S3, w4, fS3, s63⟩
end MK
