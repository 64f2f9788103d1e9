set_option maxRecDepth 100000
/-! the reference's constructor: its numbers -/
section MIb
variable {g : GX} {Q : Outcome → AH → Prop} {A : Nat → Nat} {X : AH} {R : Nat → Nat} {I : Nat → Nat → Int32} {S : Nat → List Int32} {F : Nat → Int32} {h : AH}
theorem mi_val {f fb : Nat → Int32} {r : Int32} {c : Nat} (hr : r = 0 ∨ r = -1) (hb : V 12 fb = c) (hc : c < pP) (h : (V 12 f : Int) + V 12 fb = V 12 gP - r.toInt * 2 ^ (32 * 12)) : V 12 f = pP - c := by
  have hp : V 12 gP = pP := V_tP
  have hl := V_lt 12 f
  rw [hp, hb] at h
  rcases hr with rfl | rfl
  · have e : (0 : Int32).toInt = 0 := rfl
    rw [e] at h
    omega
  · exfalso
    have e : (-1 : Int32).toInt = -1 := rfl
    rw [e] at h
    have h1 : ((V 12 f : Nat) : Int) < ((2 ^ (32 * 12) : Nat) : Int) := Int.ofNat_lt.mpr hl
    push_cast at h1
    omega
set_option maxHeartbeats 4000000 in
theorem initB (w : MW A X R I S F h) (kk : ∀ R' h', MW A X R' I S F h' → (∀ j, j ≠ 14 → j ≠ 16 → j ≠ 44 → j ≠ 45 → R' j = R j) → R' 16 = eP → R' 44 = pP - 3 → R' 45 = pP - 12 → Q (.returned none) h') : XX g MX10_init ({ frames := 2, cells := 256, slots := 26510, locals := 46 } : Room) Q 256 26510 870 [(1, .int 6), (0, .ref (A 96))] [] h := by
  obtain ⟨f0, c16, -, -⟩ := w.n 16 rfl
  have n16 : A 96 ≠ A 16 := fun e => absurd (w.1 96 16 (by decide) (by decide) e) (by decide)
  have ob : ∀ c, hset h (A 16) c (A 96) = some (Ob 11 (mFl A F)) := fun c => by rw [hset_ne n16]; exact MW.ob w
  refine X_iconst (pc := 870) (x := 1) dX10_init_870 (by decide) ?_
  refine X_aload_n (pc := 871) 1 dX10_init_871 rfl rfl ?_
  refine X_getfield (pc := 872) dX10_init_872 fg_X10_210_11 (MW.ob w) mf_16 ?_
  refine X_bipush (pc := 875) (x := 12) dX10_init_875 (by decide) ?_
  refine X_isv (pc := 877) _ dX10_init_877 cs_X10_98 rfl (msmall_ok g (v := 1) (n := 12) c16 (by decide) (by decide) (by decide)) nX10_small (Nat.le_of_ble_eq_true rfl) (Nat.le_of_ble_eq_true rfl) (Nat.le_of_ble_eq_true rfl) (Nat.le_of_ble_eq_true rfl) (fun h1 q1 => ?_)
  subst q1
  have v1 : V 12 (smN 12 1 f0) = 1 := smN_V (by decide)
  generalize smN 12 1 f0 = f1 at *
  have cO := ob (Ai false 0 12 f1)
  refine X_aload_n (pc := 880) 1 dX10_init_880 rfl rfl ?_
  refine X_getfield (pc := 881) dX10_init_881 fg_X10_210_11 cO mf_16 ?_
  refine X_getstatic (pc := 884) (j := 3) dX10_init_884 q1377 (fun _ => rfl) rfl (fun st_884 hs_884 => ?_)
  refine X_aload_n (pc := 887) 1 dX10_init_887 rfl rfl ?_
  refine X_getfield (pc := 888) dX10_init_888 fg_X10_210_11 cO mf_16 ?_
  refine X_bipush (pc := 891) (x := 12) dX10_init_891 (by decide) ?_
  refine X_isi (pc := 893) _ dX10_init_893 cs_X10_18 rfl (mplus_ok g (n := 12) (hset_self _ _ _) hs_884 (hset_self _ _ _) (by decide) (by decide) (by decide) ⟨by decide, by decide, by decide⟩) nX10_plus (Nat.le_of_ble_eq_true rfl) (Nat.le_of_ble_eq_true rfl) (Nat.le_of_ble_eq_true rfl) (Nat.le_of_ble_eq_true rfl) (fun r2 h2 q2 => ?_)
  obtain ⟨f2, wv, rfl, hw1, -, hV2, rfl⟩ := q2
  rw [hset_hset, v1, V_tP] at *
  have hp : pP + 1 < 2 ^ (32 * 12) := by decide +kernel
  have hw0 : wv = 0 := by
    apply Nat.le_antisymm _ (Nat.zero_le wv)
    apply Nat.le_of_not_lt
    intro z
    have : wv = 1 := by omega
    subst this
    omega
  subst hw0
  have v2 : V 12 f2 = pP + 1 := by omega
  have cO := ob (Ai false 0 12 f2)
  refine X_istore_n (pc := 896) (L' := [(1, .int _), (0, .ref _)]) dX10_init_896 rfl (Nat.le_of_ble_eq_true rfl) rfl ?_
  refine X_aload_n (pc := 897) 1 dX10_init_897 rfl rfl ?_
  refine X_getfield (pc := 898) dX10_init_898 fg_X10_210_11 cO mf_16 ?_
  refine X_bipush (pc := 901) (x := 12) dX10_init_901 (by decide) ?_
  refine X_iload_n (pc := 903) 0 dX10_init_903 rfl rfl ?_
  refine X_isv (pc := 904) _ dX10_init_904 cs_X10_106 rfl (mhalf_ok g (n := 12) (hset_self _ _ _) (by decide) (by decide)) nX10_half (Nat.le_of_ble_eq_true rfl) (Nat.le_of_ble_eq_true rfl) (Nat.le_of_ble_eq_true rfl) (Nat.le_of_ble_eq_true rfl) (fun h3 q3 => ?_)
  subst q3
  rw [hset_hset]
  have v3 := hvF_V (n := 12) (by decide) f2 (nI 0)
  generalize hvF 12 12 f2 (nI 0) = f3 at *
  rw [v2, show u32 (nI 0) % 2 = 0 from rfl] at v3
  have hp4 : (pP + 1) % 4 = 0 := by decide +kernel
  have v3' : V 12 f3 = (pP + 1) / 2 := by omega
  have cO := ob (Ai false 0 12 f3)
  refine X_aload_n (pc := 907) 1 dX10_init_907 rfl rfl ?_
  refine X_getfield (pc := 908) dX10_init_908 fg_X10_210_11 cO mf_16 ?_
  refine X_bipush (pc := 911) (x := 12) dX10_init_911 (by decide) ?_
  refine X_iconst (pc := 913) (x := 0) dX10_init_913 (by decide) ?_
  refine X_isv (pc := 914) _ dX10_init_914 cs_X10_106 rfl (mhalf_ok g (n := 12) (o := 0) (hset_self _ _ _) (by decide) (by decide)) nX10_half (Nat.le_of_ble_eq_true rfl) (Nat.le_of_ble_eq_true rfl) (Nat.le_of_ble_eq_true rfl) (Nat.le_of_ble_eq_true rfl) (fun h4 q4 => ?_)
  subst q4
  rw [hset_hset]
  have v4 := hvF_V (n := 12) (by decide) f3 0
  generalize hvF 12 12 f3 0 = f4 at *
  rw [v3', show u32 (0 : Int32) % 2 = 0 from rfl] at v4
  have v4' : V 12 f4 = eP := by rw [eP_def]; omega
  have w4 := w.setN 16 rfl v4' (by rw [eP_def]; decide +kernel)
  generalize hset h (A 16) (Ai false 0 12 f4) = h4 at *
  obtain ⟨R4, hR4⟩ : ∃ R4, R4 = up R 16 eP := ⟨_, rfl⟩
  rw [← hR4] at w4
  refine X_iconst (pc := 917) (x := 3) dX10_init_917 (by decide) ?_
  refine X_aload_n (pc := 918) 1 dX10_init_918 rfl rfl ?_
  refine X_getfield (pc := 919) dX10_init_919 fg_X10_152_11 (MW.ob w4) mf_14 ?_
  refine X_bipush (pc := 922) (x := 12) dX10_init_922 (by decide) ?_
  refine X_isv (pc := 924) _ dX10_init_924 cs_X10_98 rfl (msmP g w4 14 rfl (v := 3) (by decide +kernel)) nX10_small (Nat.le_of_ble_eq_true rfl) (Nat.le_of_ble_eq_true rfl) (Nat.le_of_ble_eq_true rfl) (Nat.le_of_ble_eq_true rfl) (fun h5 w5 => ?_)
  obtain ⟨f14, c14, vv14, -⟩ := w5.n 14 rfl
  obtain ⟨f44, c44, -, -⟩ := w5.n 44 rfl
  refine X_getstatic (pc := 927) (j := 3) dX10_init_927 q1377 (fun _ => rfl) rfl (fun st_927 hs_927 => ?_)
  refine X_aload_n (pc := 930) 1 dX10_init_930 rfl rfl ?_
  refine X_getfield (pc := 931) dX10_init_931 fg_X10_152_11 (MW.ob w5) mf_14 ?_
  refine X_aload_n (pc := 934) 1 dX10_init_934 rfl rfl ?_
  refine X_getfield (pc := 935) dX10_init_935 fg_X10_377_11 (MW.ob w5) mf_44 ?_
  refine X_bipush (pc := 938) (x := 12) dX10_init_938 (by decide) ?_
  refine X_isi (pc := 940) _ dX10_init_940 cs_X10_30 rfl (mminus_ok g (n := 12) hs_927 c14 c44 (by decide) (by decide) (by decide) ⟨by decide, by decide, by decide⟩) nX10_minus (Nat.le_of_ble_eq_true rfl) (Nat.le_of_ble_eq_true rfl) (Nat.le_of_ble_eq_true rfl) (Nat.le_of_ble_eq_true rfl) (fun r6 h6 q6 => ?_)
  obtain ⟨f6, hr6, -, hV6, rfl⟩ := q6
  have v6 := mi_val (c := 3) hr6 (vv14.trans (up_same _ _ _)) (by decide +kernel) hV6
  have w6 := w5.setN 44 rfl v6 (by decide +kernel)
  generalize hset h5 (A 44) _ = h6 at *
  refine X_istore_n (pc := 943) (L' := [(1, .int _), (0, .ref _)]) dX10_init_943 rfl (Nat.le_of_ble_eq_true rfl) rfl ?_
  refine X_bipush (pc := 944) (x := 12) dX10_init_944 (by decide) ?_
  refine X_aload_n (pc := 946) 1 dX10_init_946 rfl rfl ?_
  refine X_getfield (pc := 947) dX10_init_947 fg_X10_152_11 (MW.ob w6) mf_14 ?_
  refine X_bipush (pc := 950) (x := 12) dX10_init_950 (by decide) ?_
  refine X_isv (pc := 952) _ dX10_init_952 cs_X10_98 rfl (msmP g w6 14 rfl (v := 12) (by decide +kernel)) nX10_small (Nat.le_of_ble_eq_true rfl) (Nat.le_of_ble_eq_true rfl) (Nat.le_of_ble_eq_true rfl) (Nat.le_of_ble_eq_true rfl) (fun h7 w7 => ?_)
  obtain ⟨g14, d14, ww14, -⟩ := w7.n 14 rfl
  obtain ⟨g45, d45, -, -⟩ := w7.n 45 rfl
  refine X_getstatic (pc := 955) (j := 3) dX10_init_955 q1377 (fun _ => rfl) rfl (fun st_955 hs_955 => ?_)
  refine X_aload_n (pc := 958) 1 dX10_init_958 rfl rfl ?_
  refine X_getfield (pc := 959) dX10_init_959 fg_X10_152_11 (MW.ob w7) mf_14 ?_
  refine X_aload_n (pc := 962) 1 dX10_init_962 rfl rfl ?_
  refine X_getfield (pc := 963) dX10_init_963 fg_X10_371_11 (MW.ob w7) mf_45 ?_
  refine X_bipush (pc := 966) (x := 12) dX10_init_966 (by decide) ?_
  refine X_isi (pc := 968) _ dX10_init_968 cs_X10_30 rfl (mminus_ok g (n := 12) hs_955 d14 d45 (by decide) (by decide) (by decide) ⟨by decide, by decide, by decide⟩) nX10_minus (Nat.le_of_ble_eq_true rfl) (Nat.le_of_ble_eq_true rfl) (Nat.le_of_ble_eq_true rfl) (Nat.le_of_ble_eq_true rfl) (fun r8 h8 q8 => ?_)
  obtain ⟨f8, hr8, -, hV8, rfl⟩ := q8
  have v8 := mi_val (c := 12) hr8 (ww14.trans (up_same _ _ _)) (by decide +kernel) hV8
  have w8 := w7.setN 45 rfl v8 (by decide +kernel)
  refine X_istore_n (pc := 971) (L' := [(1, .int _), (0, .ref _)]) dX10_init_971 rfl (Nat.le_of_ble_eq_true rfl) rfl ?_
  refine X_return (pc := 972) dX10_init_972 rfl (Nat.le_of_ble_eq_true rfl) (Nat.le_of_ble_eq_true rfl) ?_
  refine kk _ _ w8 (fun j a b c d => ?_) ?_ ?_ (up_same _ _ _)
  · rw [up_ne d]
    show up (up (up R4 14 _) 44 _) 14 _ j = R j
    rw [up_ne a, up_ne c, up_ne a, hR4, up_ne b]
  · rw [up_ne (by decide)]
    show up (up (up R4 14 _) 44 _) 14 _ 16 = eP
    rw [up_ne (by decide), up_ne (by decide), up_ne (by decide), hR4, up_same]
  · rw [up_ne (by decide)]
    show up (up (up R4 14 _) 44 _) 14 _ 44 = pP - 3
    rw [up_ne (by decide), up_same]
end MIb
