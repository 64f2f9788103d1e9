set_option maxRecDepth 100000
/-! the short digest: its rows, for both programs; the reference's schedule -/
def wdP (m : Nat → Int32) (a i : Nat) : Nat → Int32
  | 0 => 0
  | j + 1 => (wdP m a i j <<< ((8 : Int32) &&& 31)) ||| (m (a + 4 * i + j) &&& 255)
def sg0 (x : Int32) : Int32 := (rolI x 7 ^^^ rolI x 18) ^^^ (x.toUInt32 >>> ((3 : Int32).toUInt32 &&& Int32.toUInt32 31)).toInt32
def sg1 (x : Int32) : Int32 := (rolI x 17 ^^^ rolI x 19) ^^^ (x.toUInt32 >>> ((10 : Int32).toUInt32 &&& Int32.toUInt32 31)).toInt32
/-- the schedule: the first words, then by the rule -/
def IsSched (m : Nat → Int32) (a : Nat) (n : Nat) (f : Nat → Int32) : Prop := ∀ i, i < n → (i < 16 → f i = wdP m a i 4) ∧ (16 ≤ i → f i = f (i - 16) + f (i - 7) + sg0 (f (i - 15)) + sg1 (f (i - 2)))
theorem IsSched.snoc {m : Nat → Int32} {a n : Nat} {f : Nat → Int32} {x : Int32} (hf : IsSched m a n f) (h1 : n < 16 → x = wdP m a n 4) (h2 : 16 ≤ n → x = f (n - 16) + f (n - 7) + sg0 (f (n - 15)) + sg1 (f (n - 2))) : IsSched m a (n + 1) (upd f n x) := by
  have o : ∀ j, j < n → upd f n x j = f j := fun j hj => if_neg (by omega)
  intro i hi
  by_cases e : i = n
  · subst e
    refine ⟨fun h => (if_pos rfl : upd f i x i = x).trans (h1 h), fun h => ?_⟩
    rw [o (i - 16) (by omega), o (i - 7) (by omega), o (i - 15) (by omega), o (i - 2) (by omega)]
    exact (if_pos rfl : upd f i x i = x).trans (h2 h)
  · obtain ⟨k1, k2⟩ := hf i (by omega)
    refine ⟨fun h => (o i (by omega)).trans (k1 h), fun h => ?_⟩
    rw [o i (by omega), o (i - 16) (by omega), o (i - 7) (by omega), o (i - 15) (by omega), o (i - 2) (by omega)]
    exact k2 h
theorem upd_upd (f : Nat → Int32) (i : Nat) (x y : Int32) : upd (upd f i x) i y = upd f i y := by
  funext j
  unfold upd
  by_cases e : j = i
  · rw [if_pos e, if_pos e]
  · rw [if_neg e, if_neg e, if_neg e]
theorem upd_at (f : Nat → Int32) (i : Nat) (x : Int32) : upd f i x i = x := if_pos rfl
section MBl
variable {A : Nat → Nat} {X : AH} {R : Nat → Nat} {I : Nat → Nat → Int32} {S : Nat → List Int32} {F : Nat → Int32} {h : AH}
set_option maxHeartbeats 4000000 in
theorem sched_ok (g : GX) (w : MW A X R I S F h) {at' : Nat} {Post : Outcome → AH → Prop} (hat : at' + 64 ≤ (S 25).length)
    (fin : ∀ f, IsSched (fun j => (S 25).getD j 0) at' 64 f → XX g MX10_block ({ frames := 1, cells := 0, slots := 0, locals := 21 } : Room) Post 0 0 160 [(2, .int (nI 64)), (0, .ref (A 96)), (1, .int (nI at'))] [] (hset h (A 29) (Ai false 0 64 f))) :
    XX g MX10_block ({ frames := 1, cells := 0, slots := 0, locals := 21 } : Room) Post 0 0 0 [(0, .ref (A 96)), (1, .int (nI at'))] [] h := by
  obtain ⟨f25, c25, p25, l25⟩ := w.s 25 rfl
  have n25 : A 25 ≠ A 29 := w.ne (by decide) (by decide) (by decide)
  obtain ⟨f29, c29⟩ := w.j 29 rfl
  have loop : ∀ m i, i + m = 64 → ∀ f : Nat → Int32, IsSched (fun j => (S 25).getD j 0) at' i f →
      XX g MX10_block ({ frames := 1, cells := 0, slots := 0, locals := 21 } : Room) Post 0 0 2 [(2, .int (nI i)), (0, .ref (A 96)), (1, .int (nI at'))] [] (hset h (A 29) (Ai false 0 64 f)) := by
    intro m
    induction m with
    | zero =>
      intro i hi f hf
      have e : i = 64 := by omega
      subst e
      refine X_iload_n (pc := 2) 0 dX10_block_2 rfl rfl ?_
      refine X_bipush (pc := 3) (x := 64) dX10_block_3 (by decide) ?_
      refine X_cge (a := 64) (b := 64) (pc := 5) 160 dX10_block_5 (by decide) (by omega) (by omega) (fun _ => ?_) (fun c => absurd c (by omega))
      exact fin f hf
    | succ m ih =>
      intro i hi f hf
      have w1 := w.setJ 29 rfl f
      have c1 := hset_self h (A 29) (Ai false 0 64 f)
      have ci : (nI i).toNatClampNeg = i := nI_clamp (by omega)
      have b1 : vp_in (nI i) 64 := vp_in_nI (by omega) (by omega)
      refine X_iload_n (pc := 2) 0 dX10_block_2 rfl rfl ?_
      refine X_bipush (pc := 3) (x := 64) dX10_block_3 (by decide) ?_
      refine X_cge (b := 64) (pc := 5) 160 dX10_block_5 (by decide) (by omega) (by omega) (fun c => absurd c (by omega)) (fun _ => ?_)
      refine X_iload_n (pc := 8) 0 dX10_block_8 rfl rfl ?_
      refine X_bipush (pc := 9) (x := 16) dX10_block_9 (by decide) ?_
      by_cases h16 : i < 16
      · refine X_icmp_ge (pc := 11) 69 dX10_block_11 (by decide) (fun c => absurd c (nI_ge (b := 16) h16 (by decide))) (fun _ => ?_)
        have inner : ∀ m j, j + m = 4 → XX g MX10_block ({ frames := 1, cells := 0, slots := 0, locals := 21 } : Room) Post 0 0 23 [(3, .int (nI j)), (2, .int (nI i)), (0, .ref (A 96)), (1, .int (nI at'))] [] (hset h (A 29) (Ai false 0 64 (upd f i (wdP (fun j => (S 25).getD j 0) at' i j)))) := by
          intro m
          induction m with
          | zero =>
            intro j hj
            have e : j = 4 := by omega
            subst e
            refine X_iload_n (pc := 23) 0 dX10_block_23 rfl rfl ?_
            refine X_iconst (pc := 24) (x := 4) dX10_block_24 (by decide) ?_
            refine X_cge (a := 4) (b := 4) (pc := 25) 66 dX10_block_25 (by decide) (by omega) (by omega) (fun _ => ?_) (fun c => absurd c (by omega))
            refine X_goto (pc := 66) 154 dX10_block_66 (by decide) ?_
            refine X_iinc (pc := 154) (L' := [(2, .int (_ + 1)), (3, .int _), (0, .ref _), (1, .int _)]) 1 dX10_block_154 rfl rfl (Nat.le_of_ble_eq_true rfl) rfl ?_
            refine X_goto (pc := 157) 2 dX10_block_157 (by decide) ?_
            rw [show nI i + 1 = nI (i + 1) from nI_add i 1]
            refine XX.pick (L' := [(2, .int _), (0, .ref _), (1, .int _)]) [0, 2, 3] rfl ?_
            exact ih (i + 1) (by omega) _ (hf.snoc (fun _ => rfl) (fun c => absurd c (by omega)))
          | succ m ih2 =>
            intro j hj
            have w2 := w.setJ 29 rfl (upd f i (wdP (fun j => (S 25).getD j 0) at' i j))
            have c2 := hset_self h (A 29) (Ai false 0 64 (upd f i (wdP (fun j => (S 25).getD j 0) at' i j)))
            have c25' : hset h (A 29) (Ai false 0 64 (upd f i (wdP (fun j => (S 25).getD j 0) at' i j))) (A 25) = some (Ai false 2 2600 f25) := by rw [hset_ne n25]; exact c25
            have bx : vp_in (nI (at' + 4 * i + j)) 2600 := vp_in_nI (by omega) (by omega)
            have cx : (nI (at' + 4 * i + j)).toNatClampNeg = at' + 4 * i + j := nI_clamp (by omega)
            refine X_iload_n (pc := 23) 0 dX10_block_23 rfl rfl ?_
            refine X_iconst (pc := 24) (x := 4) dX10_block_24 (by decide) ?_
            refine X_cge (b := 4) (pc := 25) 66 dX10_block_25 (by decide) (by omega) (by omega) (fun c => absurd c (by omega)) (fun _ => ?_)
            refine X_aload_n (pc := 28) 2 dX10_block_28 rfl rfl ?_
            refine X_getfield (pc := 29) dX10_block_29 fg_X10_286_11 (MW.ob w2) mf_29 ?_
            refine X_iload_n (pc := 32) 1 dX10_block_32 rfl rfl ?_
            refine X_aload_n (pc := 33) 2 dX10_block_33 rfl rfl ?_
            refine X_getfield (pc := 34) dX10_block_34 fg_X10_286_11 (MW.ob w2) mf_29 ?_
            refine X_iload_n (pc := 37) 1 dX10_block_37 rfl rfl ?_
            refine X_iaload (pc := 38) dX10_block_38 c2 b1 ?_
            refine X_bipush (pc := 39) (x := 8) dX10_block_39 (by decide) ?_
            refine X_ishl (pc := 41) dX10_block_41 ?_
            refine X_aload_n (pc := 42) 2 dX10_block_42 rfl rfl ?_
            refine X_getfield (pc := 43) dX10_block_43 fg_X10_239_11 (MW.ob w2) mf_25 ?_
            refine X_iload_n (pc := 46) 3 dX10_block_46 rfl rfl ?_
            refine X_iconst (pc := 47) (x := 4) dX10_block_47 (by decide) ?_
            refine X_iload_n (pc := 48) 1 dX10_block_48 rfl rfl ?_
            refine X_imul (pc := 49) dX10_block_49 ?_
            refine X_iadd (pc := 50) dX10_block_50 ?_
            refine X_iload_n (pc := 51) 0 dX10_block_51 rfl rfl ?_
            refine X_iadd (pc := 52) dX10_block_52 ?_
            rw [ci, upd_at, show nI at' + 4 * nI i + nI j = nI (at' + 4 * i + j) by rw [show (4 : Int32) * nI i = nI (4 * i) from pk_mul 4 i, nI_add, nI_add]]
            refine X_baload (pc := 53) dX10_block_53 c25' bx ?_
            refine X_sipush (pc := 54) (x := 255) dX10_block_54 (by decide) ?_
            refine X_iand (pc := 57) dX10_block_57 ?_
            refine X_ior (pc := 58) dX10_block_58 ?_
            refine X_iastore (pc := 59) dX10_block_59 c2 b1 ?_
            refine X_iinc (pc := 60) (L' := [(3, .int (_ + 1)), (2, .int _), (0, .ref _), (1, .int _)]) 0 dX10_block_60 rfl rfl (Nat.le_of_ble_eq_true rfl) rfl ?_
            refine X_goto (pc := 63) 23 dX10_block_63 (by decide) ?_
            rw [cx, p25 _ (by omega), ci, hset_hset, upd_upd, show nI j + 1 = nI (j + 1) from nI_add j 1]
            exact ih2 (j + 1) (by omega)
        refine X_aload_n (pc := 14) 1 dX10_block_14 rfl rfl ?_
        refine X_getfield (pc := 15) dX10_block_15 fg_X10_286_11 (MW.ob w1) mf_29 ?_
        refine X_iload_n (pc := 18) 0 dX10_block_18 rfl rfl ?_
        refine X_iconst (pc := 19) (x := 0) dX10_block_19 (by decide) ?_
        refine X_iastore (pc := 20) dX10_block_20 c1 b1 ?_
        refine X_iconst (pc := 21) (x := 0) dX10_block_21 (by decide) ?_
        refine X_istore_n (pc := 22) (L' := [(3, .int _), (2, .int _), (0, .ref _), (1, .int _)]) dX10_block_22 rfl (Nat.le_of_ble_eq_true rfl) rfl ?_
        rw [ci, hset_hset]
        exact inner 4 0 (by omega)
      · refine X_icmp_ge (pc := 11) 69 dX10_block_11 (by decide) (fun _ => ?_) (fun c => absurd (nI_le (a := 16) (by omega) (by omega)) c)
        have d : ∀ k, k ≤ 16 → nI i - nI k = nI (i - k) := fun k hk => pk_sub (by omega)
        have cc : ∀ k, (nI (i - k)).toNatClampNeg = i - k := fun k => nI_clamp (by omega)
        have bb : ∀ k, vp_in (nI (i - k)) 64 := fun k => vp_in_nI (by omega) (by omega)
        refine X_aload_n (pc := 69) 1 dX10_block_69 rfl rfl ?_
        refine X_getfield (pc := 70) dX10_block_70 fg_X10_286_11 (MW.ob w1) mf_29 ?_
        refine X_iload_n (pc := 73) 0 dX10_block_73 rfl rfl ?_
        refine X_bipush (pc := 74) (x := 15) dX10_block_74 (by decide) ?_
        refine X_isub (pc := 76) dX10_block_76 ?_
        rw [show nI i - 15 = nI (i - 15) from d 15 (by decide)]
        refine X_iaload (pc := 77) dX10_block_77 c1 (bb 15) ?_
        refine X_istore_n (pc := 78) (L' := [(3, .int _), (2, .int _), (0, .ref _), (1, .int _)]) dX10_block_78 rfl (Nat.le_of_ble_eq_true rfl) rfl ?_
        refine X_aload_n (pc := 79) 2 dX10_block_79 rfl rfl ?_
        refine X_getfield (pc := 80) dX10_block_80 fg_X10_286_11 (MW.ob w1) mf_29 ?_
        refine X_iload_n (pc := 83) 1 dX10_block_83 rfl rfl ?_
        refine X_iconst (pc := 84) (x := 2) dX10_block_84 (by decide) ?_
        refine X_isub (pc := 85) dX10_block_85 ?_
        rw [cc, show nI i - 2 = nI (i - 2) from d 2 (by decide)]
        refine X_iaload (pc := 86) dX10_block_86 c1 (bb 2) ?_
        refine X_istore (pc := 87) (L' := [(4, .int _), (3, .int _), (2, .int _), (0, .ref _), (1, .int _)]) dX10_block_87 (Nat.le_of_ble_eq_true rfl) rfl ?_
        refine X_aload_n (pc := 89) 3 dX10_block_89 rfl rfl ?_
        refine X_getfield (pc := 90) dX10_block_90 fg_X10_286_11 (MW.ob w1) mf_29 ?_
        refine X_iload_n (pc := 93) 2 dX10_block_93 rfl rfl ?_
        refine X_aload_n (pc := 94) 3 dX10_block_94 rfl rfl ?_
        refine X_getfield (pc := 95) dX10_block_95 fg_X10_286_11 (MW.ob w1) mf_29 ?_
        refine X_iload_n (pc := 98) 2 dX10_block_98 rfl rfl ?_
        refine X_bipush (pc := 99) (x := 16) dX10_block_99 (by decide) ?_
        refine X_isub (pc := 101) dX10_block_101 ?_
        rw [cc, show nI i - 16 = nI (i - 16) from d 16 (by decide)]
        refine X_iaload (pc := 102) dX10_block_102 c1 (bb 16) ?_
        refine X_aload_n (pc := 103) 3 dX10_block_103 rfl rfl ?_
        refine X_getfield (pc := 104) dX10_block_104 fg_X10_286_11 (MW.ob w1) mf_29 ?_
        refine X_iload_n (pc := 107) 2 dX10_block_107 rfl rfl ?_
        refine X_bipush (pc := 108) (x := 7) dX10_block_108 (by decide) ?_
        refine X_isub (pc := 110) dX10_block_110 ?_
        rw [cc, show nI i - 7 = nI (i - 7) from d 7 (by decide)]
        refine X_iaload (pc := 111) dX10_block_111 c1 (bb 7) ?_
        refine X_iadd (pc := 112) dX10_block_112 ?_
        refine X_iload_n (pc := 113) 1 dX10_block_113 rfl rfl ?_
        refine X_bipush (pc := 114) (x := 7) dX10_block_114 (by decide) ?_
        rw [cc]
        refine X_isi (pc := 116) _ dX10_block_116 cs_X10_289 rfl (roll_ok g _ _) nX10_roll (Nat.le_of_ble_eq_true rfl) (Nat.le_of_ble_eq_true rfl) (Nat.le_of_ble_eq_true rfl) (Nat.le_of_ble_eq_true rfl) (fun r1 h1 q1 => ?_)
        obtain ⟨rfl, rfl⟩ := q1
        refine X_iload_n (pc := 119) 1 dX10_block_119 rfl rfl ?_
        refine X_bipush (pc := 120) (x := 18) dX10_block_120 (by decide) ?_
        refine X_isi (pc := 122) _ dX10_block_122 cs_X10_289 rfl (roll_ok g _ _) nX10_roll (Nat.le_of_ble_eq_true rfl) (Nat.le_of_ble_eq_true rfl) (Nat.le_of_ble_eq_true rfl) (Nat.le_of_ble_eq_true rfl) (fun r2 h2 q2 => ?_)
        obtain ⟨rfl, rfl⟩ := q2
        refine X_ixor (pc := 125) dX10_block_125 ?_
        refine X_iload_n (pc := 126) 1 dX10_block_126 rfl rfl ?_
        refine X_iconst (pc := 127) (x := 3) dX10_block_127 (by decide) ?_
        refine X_iushr (pc := 128) dX10_block_128 ?_
        refine X_ixor (pc := 129) dX10_block_129 ?_
        refine X_iadd (pc := 130) dX10_block_130 ?_
        refine X_iload (pc := 131) 0 dX10_block_131 rfl ?_
        refine X_bipush (pc := 133) (x := 17) dX10_block_133 (by decide) ?_
        refine X_isi (pc := 135) _ dX10_block_135 cs_X10_289 rfl (roll_ok g _ _) nX10_roll (Nat.le_of_ble_eq_true rfl) (Nat.le_of_ble_eq_true rfl) (Nat.le_of_ble_eq_true rfl) (Nat.le_of_ble_eq_true rfl) (fun r3 h3 q3 => ?_)
        obtain ⟨rfl, rfl⟩ := q3
        refine X_iload (pc := 138) 0 dX10_block_138 rfl ?_
        refine X_bipush (pc := 140) (x := 19) dX10_block_140 (by decide) ?_
        refine X_isi (pc := 142) _ dX10_block_142 cs_X10_289 rfl (roll_ok g _ _) nX10_roll (Nat.le_of_ble_eq_true rfl) (Nat.le_of_ble_eq_true rfl) (Nat.le_of_ble_eq_true rfl) (Nat.le_of_ble_eq_true rfl) (fun r4 h4 q4 => ?_)
        obtain ⟨rfl, rfl⟩ := q4
        refine X_ixor (pc := 145) dX10_block_145 ?_
        refine X_iload (pc := 146) 0 dX10_block_146 rfl ?_
        refine X_bipush (pc := 148) (x := 10) dX10_block_148 (by decide) ?_
        refine X_iushr (pc := 150) dX10_block_150 ?_
        refine X_ixor (pc := 151) dX10_block_151 ?_
        refine X_iadd (pc := 152) dX10_block_152 ?_
        refine X_iastore (pc := 153) dX10_block_153 c1 b1 ?_
        refine X_iinc (pc := 154) (L' := [(2, .int (_ + 1)), (4, .int _), (3, .int _), (0, .ref _), (1, .int _)]) 2 dX10_block_154 rfl rfl (Nat.le_of_ble_eq_true rfl) rfl ?_
        refine X_goto (pc := 157) 2 dX10_block_157 (by decide) ?_
        rw [ci, hset_hset, show nI i + 1 = nI (i + 1) from nI_add i 1]
        refine XX.pick (L' := [(2, .int _), (0, .ref _), (1, .int _)]) [0, 3, 4] rfl ?_
        exact ih (i + 1) (by omega) _ (hf.snoc (fun c => absurd c h16) (fun _ => rfl))
  refine X_iconst (pc := 0) (x := 0) dX10_block_0 (by decide) ?_
  refine X_istore_n (pc := 1) (L' := [(2, .int _), (0, .ref _), (1, .int _)]) dX10_block_1 rfl (Nat.le_of_ble_eq_true rfl) rfl ?_
  have := loop 64 0 (by omega) f29 (fun i hi => absurd hi (by omega))
  rw [hset_same c29] at this
  exact this
end MBl
