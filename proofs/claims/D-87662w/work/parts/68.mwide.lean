set_option maxRecDepth 100000
/-! the long digest: its rows, for both programs; the reference's schedule -/
def wwP (m : Nat → Int32) (a i : Nat) : Nat → Int64
  | 0 => 0
  | j + 1 => (wwP m a i j <<< ((8 : Int32).toInt64 &&& 63)) ||| (m (a + 8 * i + j) &&& 255).toInt64
def sh0 (x : Int64) : Int64 := (rolL x 1 ^^^ rolL x 8) ^^^ (x.toUInt64 >>> ((7 : Int32).toInt64.toUInt64 &&& Int64.toUInt64 63)).toInt64
def sh1 (x : Int64) : Int64 := (rolL x 19 ^^^ rolL x 61) ^^^ (x.toUInt64 >>> ((6 : Int32).toInt64.toUInt64 &&& Int64.toUInt64 63)).toInt64
def IsWide (m : Nat → Int32) (a : Nat) (n : Nat) (f : Nat → Int64) : Prop := ∀ i, i < n → (i < 16 → f i = wwP m a i 8) ∧ (16 ≤ i → f i = f (i - 16) + f (i - 7) + sh0 (f (i - 15)) + sh1 (f (i - 2)))
theorem updL_at (f : Nat → Int64) (i : Nat) (x : Int64) : vp_updL f i x i = x := if_pos rfl
theorem updL_ne {f : Nat → Int64} {i j : Nat} {x : Int64} (h : j ≠ i) : vp_updL f i x j = f j := if_neg h
theorem updL_upd (f : Nat → Int64) (i : Nat) (x y : Int64) : vp_updL (vp_updL f i x) i y = vp_updL f i y := by
  funext j
  by_cases e : j = i
  · subst e; rw [updL_at, updL_at]
  · rw [updL_ne e, updL_ne e, updL_ne e]
theorem IsWide.snoc {m : Nat → Int32} {a n : Nat} {f : Nat → Int64} {x : Int64} (hf : IsWide m a n f) (h1 : n < 16 → x = wwP m a n 8) (h2 : 16 ≤ n → x = f (n - 16) + f (n - 7) + sh0 (f (n - 15)) + sh1 (f (n - 2))) : IsWide m a (n + 1) (vp_updL f n x) := by
  have o : ∀ j, j < n → vp_updL f n x j = f j := fun j hj => updL_ne (by omega)
  intro i hi
  by_cases e : i = n
  · subst e
    refine ⟨fun h => (updL_at f i x).trans (h1 h), fun h => ?_⟩
    rw [o (i - 16) (by omega), o (i - 7) (by omega), o (i - 15) (by omega), o (i - 2) (by omega)]
    exact (updL_at f i x).trans (h2 h)
  · obtain ⟨k1, k2⟩ := hf i (by omega)
    refine ⟨fun h => (o i (by omega)).trans (k1 h), fun h => ?_⟩
    rw [o i (by omega), o (i - 16) (by omega), o (i - 7) (by omega), o (i - 15) (by omega), o (i - 2) (by omega)]
    exact k2 h
section MWb
variable {A : Nat → Nat} {X : AH} {R : Nat → Nat} {I : Nat → Nat → Int32} {S : Nat → List Int32} {F : Nat → Int32} {h : AH}
set_option maxHeartbeats 4000000 in
theorem wide_ok (g : GX) (w : MW A X R I S F h) {at' : Nat} {Post : Outcome → AH → Prop} (hat : at' + 128 ≤ (S 25).length)
    (fin : ∀ f, IsWide (fun j => (S 25).getD j 0) at' 80 f → XX g MX10_wideBlock ({ frames := 1, cells := 0, slots := 0, locals := 22 } : Room) Post 0 0 163 [(2, .int (nI 80)), (0, .ref (A 96)), (1, .int (nI at'))] [] (hset h (A 31) (Al false 80 f))) :
    XX g MX10_wideBlock ({ frames := 1, cells := 0, slots := 0, locals := 22 } : Room) Post 0 0 0 [(0, .ref (A 96)), (1, .int (nI at'))] [] h := by
  obtain ⟨f25, c25, p25, l25⟩ := w.s 25 rfl
  have n25 : A 25 ≠ A 31 := w.ne (by decide) (by decide) (by decide)
  obtain ⟨f29, c29⟩ := w.l 31 rfl
  have loop : ∀ m i, i + m = 80 → ∀ f : Nat → Int64, IsWide (fun j => (S 25).getD j 0) at' i f →
      XX g MX10_wideBlock ({ frames := 1, cells := 0, slots := 0, locals := 22 } : Room) Post 0 0 2 [(2, .int (nI i)), (0, .ref (A 96)), (1, .int (nI at'))] [] (hset h (A 31) (Al false 80 f)) := by
    intro m
    induction m with
    | zero =>
      intro i hi f hf
      have e : i = 80 := by omega
      subst e
      refine X_iload_n (pc := 2) 0 dX10_wideBlock_2 rfl rfl ?_
      refine X_bipush (pc := 3) (x := 80) dX10_wideBlock_3 (by decide) ?_
      refine X_cge (a := 80) (b := 80) (pc := 5) 163 dX10_wideBlock_5 (by decide) (by omega) (by omega) (fun _ => ?_) (fun c => absurd c (by omega))
      exact fin f hf
    | succ m ih =>
      intro i hi f hf
      have w1 := w.setL 31 rfl f
      have c1 := hset_self h (A 31) (Al false 80 f)
      have ci : (nI i).toNatClampNeg = i := nI_clamp (by omega)
      have b1 : vp_in (nI i) 80 := vp_in_nI (by omega) (by omega)
      refine X_iload_n (pc := 2) 0 dX10_wideBlock_2 rfl rfl ?_
      refine X_bipush (pc := 3) (x := 80) dX10_wideBlock_3 (by decide) ?_
      refine X_cge (b := 80) (pc := 5) 163 dX10_wideBlock_5 (by decide) (by omega) (by omega) (fun c => absurd c (by omega)) (fun _ => ?_)
      refine X_iload_n (pc := 8) 0 dX10_wideBlock_8 rfl rfl ?_
      refine X_bipush (pc := 9) (x := 16) dX10_wideBlock_9 (by decide) ?_
      by_cases h16 : i < 16
      · refine X_icmp_ge (pc := 11) 72 dX10_wideBlock_11 (by decide) (fun c => absurd c (nI_ge (b := 16) h16 (by decide))) (fun _ => ?_)
        have inner : ∀ m j, j + m = 8 → XX g MX10_wideBlock ({ frames := 1, cells := 0, slots := 0, locals := 22 } : Room) Post 0 0 23 [(3, .int (nI j)), (2, .int (nI i)), (0, .ref (A 96)), (1, .int (nI at'))] [] (hset h (A 31) (Al false 80 (vp_updL f i (wwP (fun j => (S 25).getD j 0) at' i j)))) := by
          intro m
          induction m with
          | zero =>
            intro j hj
            have e : j = 8 := by omega
            subst e
            refine X_iload_n (pc := 23) 0 dX10_wideBlock_23 rfl rfl ?_
            refine X_bipush (pc := 24) (x := 8) dX10_wideBlock_24 (by decide) ?_
            refine X_cge (a := 8) (b := 8) (pc := 26) 69 dX10_wideBlock_26 (by decide) (by omega) (by omega) (fun _ => ?_) (fun c => absurd c (by omega))
            refine X_goto (pc := 69) 157 dX10_wideBlock_69 (by decide) ?_
            refine X_iinc (pc := 157) (L' := [(2, .int (_ + 1)), (3, .int _), (0, .ref _), (1, .int _)]) 1 dX10_wideBlock_157 rfl rfl (Nat.le_of_ble_eq_true rfl) rfl ?_
            refine X_goto (pc := 160) 2 dX10_wideBlock_160 (by decide) ?_
            rw [show nI i + 1 = nI (i + 1) from nI_add i 1]
            refine XX.pick (L' := [(2, .int _), (0, .ref _), (1, .int _)]) [0, 2, 3] rfl ?_
            exact ih (i + 1) (by omega) _ (hf.snoc (fun _ => rfl) (fun c => absurd c (by omega)))
          | succ m ih2 =>
            intro j hj
            have w2 := w.setL 31 rfl (vp_updL f i (wwP (fun j => (S 25).getD j 0) at' i j))
            have c2 := hset_self h (A 31) (Al false 80 (vp_updL f i (wwP (fun j => (S 25).getD j 0) at' i j)))
            have c25' : hset h (A 31) (Al false 80 (vp_updL f i (wwP (fun j => (S 25).getD j 0) at' i j))) (A 25) = some (Ai false 2 2600 f25) := by rw [hset_ne n25]; exact c25
            have bx : vp_in (nI (at' + 8 * i + j)) 2600 := vp_in_nI (by omega) (by omega)
            have cx : (nI (at' + 8 * i + j)).toNatClampNeg = at' + 8 * i + j := nI_clamp (by omega)
            refine X_iload_n (pc := 23) 0 dX10_wideBlock_23 rfl rfl ?_
            refine X_bipush (pc := 24) (x := 8) dX10_wideBlock_24 (by decide) ?_
            refine X_cge (b := 8) (pc := 26) 69 dX10_wideBlock_26 (by decide) (by omega) (by omega) (fun c => absurd c (by omega)) (fun _ => ?_)
            refine X_aload_n (pc := 29) 2 dX10_wideBlock_29 rfl rfl ?_
            refine X_getfield (pc := 30) dX10_wideBlock_30 fg_X10_305_11 (MW.ob w2) mf_31 ?_
            refine X_iload_n (pc := 33) 1 dX10_wideBlock_33 rfl rfl ?_
            refine X_aload_n (pc := 34) 2 dX10_wideBlock_34 rfl rfl ?_
            refine X_getfield (pc := 35) dX10_wideBlock_35 fg_X10_305_11 (MW.ob w2) mf_31 ?_
            refine X_iload_n (pc := 38) 1 dX10_wideBlock_38 rfl rfl ?_
            refine X_laload (pc := 39) dX10_wideBlock_39 c2 b1 ?_
            refine X_bipush (pc := 40) (x := 8) dX10_wideBlock_40 (by decide) ?_
            refine X_lshl (pc := 42) dX10_wideBlock_42 ?_
            refine X_aload_n (pc := 43) 2 dX10_wideBlock_43 rfl rfl ?_
            refine X_getfield (pc := 44) dX10_wideBlock_44 fg_X10_239_11 (MW.ob w2) mf_25 ?_
            refine X_iload_n (pc := 47) 3 dX10_wideBlock_47 rfl rfl ?_
            refine X_bipush (pc := 48) (x := 8) dX10_wideBlock_48 (by decide) ?_
            refine X_iload_n (pc := 50) 1 dX10_wideBlock_50 rfl rfl ?_
            refine X_imul (pc := 51) dX10_wideBlock_51 ?_
            refine X_iadd (pc := 52) dX10_wideBlock_52 ?_
            refine X_iload_n (pc := 53) 0 dX10_wideBlock_53 rfl rfl ?_
            refine X_iadd (pc := 54) dX10_wideBlock_54 ?_
            rw [ci, updL_at, show nI at' + 8 * nI i + nI j = nI (at' + 8 * i + j) by rw [show (8 : Int32) * nI i = nI (8 * i) from pk_mul 8 i, nI_add, nI_add]]
            refine X_baload (pc := 55) dX10_wideBlock_55 c25' bx ?_
            refine X_sipush (pc := 56) (x := 255) dX10_wideBlock_56 (by decide) ?_
            refine X_iand (pc := 59) dX10_wideBlock_59 ?_
            refine X_i2l (pc := 60) dX10_wideBlock_60 ?_
            refine X_lor (pc := 61) dX10_wideBlock_61 ?_
            refine X_lastore (pc := 62) dX10_wideBlock_62 c2 b1 ?_
            refine X_iinc (pc := 63) (L' := [(3, .int (_ + 1)), (2, .int _), (0, .ref _), (1, .int _)]) 0 dX10_wideBlock_63 rfl rfl (Nat.le_of_ble_eq_true rfl) rfl ?_
            refine X_goto (pc := 66) 23 dX10_wideBlock_66 (by decide) ?_
            rw [cx, p25 _ (by omega), ci, hset_hset, updL_upd, show nI j + 1 = nI (j + 1) from nI_add j 1]
            exact ih2 (j + 1) (by omega)
        refine X_aload_n (pc := 14) 1 dX10_wideBlock_14 rfl rfl ?_
        refine X_getfield (pc := 15) dX10_wideBlock_15 fg_X10_305_11 (MW.ob w1) mf_31 ?_
        refine X_iload_n (pc := 18) 0 dX10_wideBlock_18 rfl rfl ?_
        refine X_lconst (pc := 19) (x := 0) dX10_wideBlock_19 (by decide) ?_
        refine X_lastore (pc := 20) dX10_wideBlock_20 c1 b1 ?_
        refine X_iconst (pc := 21) (x := 0) dX10_wideBlock_21 (by decide) ?_
        refine X_istore_n (pc := 22) (L' := [(3, .int _), (2, .int _), (0, .ref _), (1, .int _)]) dX10_wideBlock_22 rfl (Nat.le_of_ble_eq_true rfl) rfl ?_
        rw [ci, hset_hset]
        exact inner 8 0 (by omega)
      · refine X_icmp_ge (pc := 11) 72 dX10_wideBlock_11 (by decide) (fun _ => ?_) (fun c => absurd (nI_le (a := 16) (by omega) (by omega)) c)
        have d : ∀ k, k ≤ 16 → nI i - nI k = nI (i - k) := fun k hk => pk_sub (by omega)
        have cc : ∀ k, (nI (i - k)).toNatClampNeg = i - k := fun k => nI_clamp (by omega)
        have bb : ∀ k, vp_in (nI (i - k)) 80 := fun k => vp_in_nI (by omega) (by omega)
        refine X_aload_n (pc := 72) 1 dX10_wideBlock_72 rfl rfl ?_
        refine X_getfield (pc := 73) dX10_wideBlock_73 fg_X10_305_11 (MW.ob w1) mf_31 ?_
        refine X_iload_n (pc := 76) 0 dX10_wideBlock_76 rfl rfl ?_
        refine X_bipush (pc := 77) (x := 15) dX10_wideBlock_77 (by decide) ?_
        refine X_isub (pc := 79) dX10_wideBlock_79 ?_
        rw [show nI i - 15 = nI (i - 15) from d 15 (by decide)]
        refine X_laload (pc := 80) dX10_wideBlock_80 c1 (bb 15) ?_
        refine X_lstore_n (pc := 81) (L' := [(3, .long _), (2, .int _), (0, .ref _), (1, .int _)]) dX10_wideBlock_81 rfl (Nat.le_of_ble_eq_true rfl) rfl ?_
        refine X_aload_n (pc := 82) 2 dX10_wideBlock_82 rfl rfl ?_
        refine X_getfield (pc := 83) dX10_wideBlock_83 fg_X10_305_11 (MW.ob w1) mf_31 ?_
        refine X_iload_n (pc := 86) 1 dX10_wideBlock_86 rfl rfl ?_
        refine X_iconst (pc := 87) (x := 2) dX10_wideBlock_87 (by decide) ?_
        refine X_isub (pc := 88) dX10_wideBlock_88 ?_
        rw [cc, show nI i - 2 = nI (i - 2) from d 2 (by decide)]
        refine X_laload (pc := 89) dX10_wideBlock_89 c1 (bb 2) ?_
        refine X_lstore (pc := 90) (L' := [(5, .long _), (3, .long _), (2, .int _), (0, .ref _), (1, .int _)]) dX10_wideBlock_90 (Nat.le_of_ble_eq_true rfl) rfl ?_
        refine X_aload_n (pc := 92) 3 dX10_wideBlock_92 rfl rfl ?_
        refine X_getfield (pc := 93) dX10_wideBlock_93 fg_X10_305_11 (MW.ob w1) mf_31 ?_
        refine X_iload_n (pc := 96) 2 dX10_wideBlock_96 rfl rfl ?_
        refine X_aload_n (pc := 97) 3 dX10_wideBlock_97 rfl rfl ?_
        refine X_getfield (pc := 98) dX10_wideBlock_98 fg_X10_305_11 (MW.ob w1) mf_31 ?_
        refine X_iload_n (pc := 101) 2 dX10_wideBlock_101 rfl rfl ?_
        refine X_bipush (pc := 102) (x := 16) dX10_wideBlock_102 (by decide) ?_
        refine X_isub (pc := 104) dX10_wideBlock_104 ?_
        rw [cc, show nI i - 16 = nI (i - 16) from d 16 (by decide)]
        refine X_laload (pc := 105) dX10_wideBlock_105 c1 (bb 16) ?_
        refine X_aload_n (pc := 106) 3 dX10_wideBlock_106 rfl rfl ?_
        refine X_getfield (pc := 107) dX10_wideBlock_107 fg_X10_305_11 (MW.ob w1) mf_31 ?_
        refine X_iload_n (pc := 110) 2 dX10_wideBlock_110 rfl rfl ?_
        refine X_bipush (pc := 111) (x := 7) dX10_wideBlock_111 (by decide) ?_
        refine X_isub (pc := 113) dX10_wideBlock_113 ?_
        rw [cc, show nI i - 7 = nI (i - 7) from d 7 (by decide)]
        refine X_laload (pc := 114) dX10_wideBlock_114 c1 (bb 7) ?_
        refine X_ladd (pc := 115) dX10_wideBlock_115 ?_
        refine X_lload_n (pc := 116) 1 dX10_wideBlock_116 rfl rfl ?_
        refine X_iconst (pc := 117) (x := 1) dX10_wideBlock_117 (by decide) ?_
        rw [cc]
        refine X_isl (pc := 118) _ dX10_wideBlock_118 cs_X10_308 rfl (rollL_ok g _ _) nX10_roll_2 (Nat.le_of_ble_eq_true rfl) (Nat.le_of_ble_eq_true rfl) (Nat.le_of_ble_eq_true rfl) (Nat.le_of_ble_eq_true rfl) (fun r1 h1 q1 => ?_)
        obtain ⟨rfl, rfl⟩ := q1
        refine X_lload_n (pc := 121) 1 dX10_wideBlock_121 rfl rfl ?_
        refine X_bipush (pc := 122) (x := 8) dX10_wideBlock_122 (by decide) ?_
        refine X_isl (pc := 124) _ dX10_wideBlock_124 cs_X10_308 rfl (rollL_ok g _ _) nX10_roll_2 (Nat.le_of_ble_eq_true rfl) (Nat.le_of_ble_eq_true rfl) (Nat.le_of_ble_eq_true rfl) (Nat.le_of_ble_eq_true rfl) (fun r2 h2 q2 => ?_)
        obtain ⟨rfl, rfl⟩ := q2
        refine X_lxor (pc := 127) dX10_wideBlock_127 ?_
        refine X_lload_n (pc := 128) 1 dX10_wideBlock_128 rfl rfl ?_
        refine X_bipush (pc := 129) (x := 7) dX10_wideBlock_129 (by decide) ?_
        refine X_lushr (pc := 131) dX10_wideBlock_131 ?_
        refine X_lxor (pc := 132) dX10_wideBlock_132 ?_
        refine X_ladd (pc := 133) dX10_wideBlock_133 ?_
        refine X_lload (pc := 134) 0 dX10_wideBlock_134 rfl ?_
        refine X_bipush (pc := 136) (x := 19) dX10_wideBlock_136 (by decide) ?_
        refine X_isl (pc := 138) _ dX10_wideBlock_138 cs_X10_308 rfl (rollL_ok g _ _) nX10_roll_2 (Nat.le_of_ble_eq_true rfl) (Nat.le_of_ble_eq_true rfl) (Nat.le_of_ble_eq_true rfl) (Nat.le_of_ble_eq_true rfl) (fun r3 h3 q3 => ?_)
        obtain ⟨rfl, rfl⟩ := q3
        refine X_lload (pc := 141) 0 dX10_wideBlock_141 rfl ?_
        refine X_bipush (pc := 143) (x := 61) dX10_wideBlock_143 (by decide) ?_
        refine X_isl (pc := 145) _ dX10_wideBlock_145 cs_X10_308 rfl (rollL_ok g _ _) nX10_roll_2 (Nat.le_of_ble_eq_true rfl) (Nat.le_of_ble_eq_true rfl) (Nat.le_of_ble_eq_true rfl) (Nat.le_of_ble_eq_true rfl) (fun r4 h4 q4 => ?_)
        obtain ⟨rfl, rfl⟩ := q4
        refine X_lxor (pc := 148) dX10_wideBlock_148 ?_
        refine X_lload (pc := 149) 0 dX10_wideBlock_149 rfl ?_
        refine X_bipush (pc := 151) (x := 6) dX10_wideBlock_151 (by decide) ?_
        refine X_lushr (pc := 153) dX10_wideBlock_153 ?_
        refine X_lxor (pc := 154) dX10_wideBlock_154 ?_
        refine X_ladd (pc := 155) dX10_wideBlock_155 ?_
        refine X_lastore (pc := 156) dX10_wideBlock_156 c1 b1 ?_
        refine X_iinc (pc := 157) (L' := [(2, .int (_ + 1)), (5, .long _), (3, .long _), (0, .ref _), (1, .int _)]) 2 dX10_wideBlock_157 rfl rfl (Nat.le_of_ble_eq_true rfl) rfl ?_
        refine X_goto (pc := 160) 2 dX10_wideBlock_160 (by decide) ?_
        rw [ci, hset_hset, show nI i + 1 = nI (i + 1) from nI_add i 1]
        refine XX.pick (L' := [(2, .int _), (0, .ref _), (1, .int _)]) [0, 3, 4] rfl ?_
        exact ih (i + 1) (by omega) _ (hf.snoc (fun c => absurd c h16) (fun _ => rfl))
  refine X_iconst (pc := 0) (x := 0) dX10_wideBlock_0 (by decide) ?_
  refine X_istore_n (pc := 1) (L' := [(2, .int _), (0, .ref _), (1, .int _)]) dX10_wideBlock_1 rfl (Nat.le_of_ble_eq_true rfl) rfl ?_
  have := loop 80 0 (by omega) f29 (fun i hi => absurd hi (by omega))
  rw [hset_same c29] at this
  exact this
end MWb
