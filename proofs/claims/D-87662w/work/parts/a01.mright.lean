set_option maxRecDepth 100000
/-! the reference: whether a nonce is in a slot; whether a token is right -/
theorem sub_eq_iff {a b : List Int32} {x y n : Nat} : sub a x n = sub b y n ↔ ∀ j, j < n → a.getD (x + j) 0 = b.getD (y + j) 0 := by
  unfold sub
  constructor
  · intro h j hj
    have := congrArg (fun l => l.getD j 0) h
    simp only [getD_map_range hj] at this
    exact this
  · intro h
    apply List.map_congr_left
    intro j hj
    exact h j (List.mem_range.mp hj)
theorem sub_eq_l {a b : List Int32} {x n : Nat} (ha : a.length = n) : a = sub b x n ↔ ∀ j, j < n → a.getD j 0 = b.getD (x + j) 0 := by
  have h : sub a 0 n = sub b x n ↔ _ := sub_eq_iff
  rw [sub_all ha] at h
  rw [h]
  simp only [Nat.zero_add]
/-- a flag that says whether all so far agree -/
def Agr (p : Nat → Prop) (i n : Nat) (v : Int32) : Prop := (v = 1 ∧ ∀ j, j < i → p j) ∨ (v = 0 ∧ ∃ j, j < n ∧ ¬ p j)
theorem Agr.no {p : Nat → Prop} {i n : Nat} {v : Int32} (h : Agr p i n v) (hv : v = 0) : Agr p (i + 1) n 0 := by
  rcases h with ⟨a, b⟩ | ⟨a, b⟩
  · rw [hv] at a; exact absurd a (by decide)
  · exact Or.inr ⟨rfl, b⟩
theorem Agr.yes {p : Nat → Prop} {i n : Nat} {v : Int32} (h : Agr p i n v) (hv : ¬ v = 0) (hp : p i) : Agr p (i + 1) n 1 := by
  rcases h with ⟨a, b⟩ | ⟨a, b⟩
  · refine Or.inl ⟨rfl, fun j hj => ?_⟩
    by_cases e : j = i
    · rw [e]; exact hp
    · exact b j (by omega)
  · exact absurd a hv
section MRt
variable {A : Nat → Nat} {X : AH} {R R' : Nat → Nat} {I I' : Nat → Nat → Int32} {S S' : Nat → List Int32} {F F' : Nat → Int32} {h : AH} {N : Nat → Nat} {L : Nat → List Int32}
theorem isIn_ok (g : GX) (w : MW A X R I S F h) {d T : List Int32} (hd : S 76 = d) (hl : d.length = 4096) (hT : S 81 = T) (hTl : 34 ≤ T.length) {k : Nat} (hk : k < 112) : MT g MX10_isIn ({ frames := 1, cells := 0, slots := 0, locals := 20 } : Room) [.ref (A 96), .int (nI k)] h (RI fun r h' => r = (if hasS d k T then 1 else 0) ∧ h' = h) := by
  refine MT.of (by decide) (Nat.le_of_ble_eq_true rfl) ?_
  obtain ⟨f76, c76, p76, -⟩ := w.s 76 rfl
  obtain ⟨f81, c81, p81, l81⟩ := w.s 81 rfl
  rw [hd] at p76
  rw [hT] at p81 l81
  have l81' : T.length ≤ 1208 := l81
  have hs : slotN k + 36 ≤ 4096 := by unfold slotN; omega
  have hhs : hasS d k T = true ↔ ∀ j, j < 32 → d.getD (slotN k + 4 + j) 0 = T.getD (2 + j) 0 := by unfold hasS; rw [beq_iff_eq]; exact sub_eq_iff
  generalize hPost : (RI fun r h' => r = (if hasS d k T then (1 : Int32) else 0) ∧ h' = h) = Post
  have loop : ∀ m i, i + m = 32 → ∀ v, Agr (fun j => d.getD (slotN k + 4 + j) 0 = T.getD (2 + j) 0) i 32 v → XX g MX10_isIn ({ frames := 1, cells := 0, slots := 0, locals := 20 } : Room) Post 0 0 4 [(3, .int (nI i)), (2, .int v), (0, .ref (A 96)), (1, .int (nI k))] [] h := by
    intro m
    induction m with
    | zero =>
      intro i hi v hv
      have ei : i = 32 := by omega
      subst ei
      refine X_iload_n (pc := 4) 0 dX10_isIn_4 rfl rfl ?_
      refine X_bipush (pc := 5) (x := 32) dX10_isIn_5 (by decide) ?_
      refine X_cge (a := 32) (b := 32) (pc := 7) 50 dX10_isIn_7 (by decide) (by omega) (by omega) (fun _ => ?_) (fun z => absurd z (by omega))
      refine X_iload_n (pc := 50) 1 dX10_isIn_50 rfl rfl ?_
      rcases hv with ⟨rfl, hv⟩ | ⟨rfl, j, hj, hv⟩
      · refine X_zreturn (pc := 51) dX10_isIn_51 rfl (by first | exact Or.inl rfl | exact Or.inr rfl | assumption | exact zo_if) (Nat.le_of_ble_eq_true rfl) (Nat.le_of_ble_eq_true rfl) ?_
        subst hPost
        exact ⟨1, rfl, by rw [if_pos (hhs.mpr hv)], rfl⟩
      · refine X_zreturn (pc := 51) dX10_isIn_51 rfl (by first | exact Or.inl rfl | exact Or.inr rfl | assumption | exact zo_if) (Nat.le_of_ble_eq_true rfl) (Nat.le_of_ble_eq_true rfl) ?_
        subst hPost
        exact ⟨0, rfl, by rw [if_neg (fun z => hv (hhs.mp z j hj))], rfl⟩
    | succ m ih =>
      intro i hi v hv
      have no : ∀ v' : Int32, Agr (fun j => d.getD (slotN k + 4 + j) 0 = T.getD (2 + j) 0) (i + 1) 32 0 → XX g MX10_isIn ({ frames := 1, cells := 0, slots := 0, locals := 20 } : Room) Post 0 0 42 [(3, .int (nI i)), (2, .int v'), (0, .ref (A 96)), (1, .int (nI k))] [] h := by
        intro v' ha
        refine X_iconst (pc := 42) (x := 0) dX10_isIn_42 (by decide) ?_
        refine X_istore_n (pc := 43) (L' := [(2, .int _), (3, .int _), (0, .ref _), (1, .int _)]) dX10_isIn_43 rfl (Nat.le_of_ble_eq_true rfl) rfl ?_
        refine X_iinc (pc := 44) (L' := [(3, .int (_ + 1)), (2, .int _), (0, .ref _), (1, .int _)]) 1 dX10_isIn_44 rfl rfl (Nat.le_of_ble_eq_true rfl) rfl ?_
        refine X_goto (pc := 47) 4 dX10_isIn_47 (by decide) ?_
        rw [show nI i + 1 = nI (i + 1) from nI_add i 1]
        refine XX.pick (L' := [(3, .int _), (2, .int _), (0, .ref _), (1, .int _)]) [0, 1, 2, 3] rfl ?_
        exact ih (i + 1) (by omega) 0 ha
      refine X_iload_n (pc := 4) 0 dX10_isIn_4 rfl rfl ?_
      refine X_bipush (pc := 5) (x := 32) dX10_isIn_5 (by decide) ?_
      refine X_cge (b := 32) (pc := 7) 50 dX10_isIn_7 (by decide) (by omega) (by omega) (fun z => absurd z (by omega)) (fun _ => ?_)
      refine X_iload_n (pc := 10) 1 dX10_isIn_10 rfl rfl ?_
      by_cases c1 : v = 0
      · exact X_if_eq (pc := 11) 42 dX10_isIn_11 (by decide) (fun _ => no _ (hv.no c1)) (fun z => absurd c1 z)
      refine X_if_eq (pc := 11) 42 dX10_isIn_11 (by decide) (fun z => absurd z c1) (fun _ => ?_)
      refine X_aload_n (pc := 14) 2 dX10_isIn_14 rfl rfl ?_
      refine X_getfield (pc := 15) dX10_isIn_15 fg_X10_528_11 (MW.ob w) mf_76 ?_
      refine X_iload_n (pc := 18) 3 dX10_isIn_18 rfl rfl ?_
      refine X_isi (pc := 19) _ dX10_isIn_19 cs_X10_701 rfl (slot_ok g hk) nX10_slot (Nat.le_of_ble_eq_true rfl) (Nat.le_of_ble_eq_true rfl) (Nat.le_of_ble_eq_true rfl) (Nat.le_of_ble_eq_true rfl) (fun r1 h1 q1 => ?_)
      obtain ⟨rfl, rfl⟩ := q1
      have b7 : vp_in (nI (slotN k + 4 + i)) 4096 := vp_in_nI (by omega) (by omega)
      have c7 : (nI (slotN k + 4 + i)).toNatClampNeg = slotN k + 4 + i := nI_clamp (by omega)
      have b8' : vp_in (nI (2 + i)) 1208 := vp_in_nI (by omega) (by omega)
      have c8' : (nI (2 + i)).toNatClampNeg = 2 + i := nI_clamp (by omega)
      refine X_iconst (pc := 22) (x := 4) dX10_isIn_22 (by decide) ?_
      refine X_iadd (pc := 23) dX10_isIn_23 ?_
      refine X_iload_n (pc := 24) 0 dX10_isIn_24 rfl rfl ?_
      refine X_iadd (pc := 25) dX10_isIn_25 ?_
      rw [show nI (slotN k) + 4 = nI (slotN k + 4) from nI_add _ 4, nI_add]
      refine X_baload (pc := 26) dX10_isIn_26 c76 b7 ?_
      refine X_aload_n (pc := 27) 2 dX10_isIn_27 rfl rfl ?_
      refine X_getfield (pc := 28) dX10_isIn_28 fg_X10_534_11 (MW.ob w) mf_81 ?_
      refine X_iconst (pc := 31) (x := 2) dX10_isIn_31 (by decide) ?_
      refine X_iload_n (pc := 32) 0 dX10_isIn_32 rfl rfl ?_
      refine X_iadd (pc := 33) dX10_isIn_33 ?_
      rw [show (2 : Int32) + nI i = nI (2 + i) from nI_add 2 i]
      refine X_baload (pc := 34) dX10_isIn_34 c81 b8' ?_
      rw [c7, c8', p76 _ (by omega), p81 _ (by omega)]
      by_cases c2 : d.getD (slotN k + 4 + i) 0 = T.getD (2 + i) 0
      · refine X_icmp_ne (pc := 35) 42 dX10_isIn_35 (by decide) (fun z => absurd c2 z) (fun _ => ?_)
        refine X_iconst (pc := 38) (x := 1) dX10_isIn_38 (by decide) ?_
        refine X_goto (pc := 39) 43 dX10_isIn_39 (by decide) ?_
        refine X_istore_n (pc := 43) (L' := [(2, .int _), (3, .int _), (0, .ref _), (1, .int _)]) dX10_isIn_43 rfl (Nat.le_of_ble_eq_true rfl) rfl ?_
        refine X_iinc (pc := 44) (L' := [(3, .int (_ + 1)), (2, .int _), (0, .ref _), (1, .int _)]) 1 dX10_isIn_44 rfl rfl (Nat.le_of_ble_eq_true rfl) rfl ?_
        refine X_goto (pc := 47) 4 dX10_isIn_47 (by decide) ?_
        rw [show nI i + 1 = nI (i + 1) from nI_add i 1]
        refine XX.pick (L' := [(3, .int _), (2, .int _), (0, .ref _), (1, .int _)]) [0, 1, 2, 3] rfl ?_
        exact ih (i + 1) (by omega) 1 (hv.yes c1 c2)
      · exact X_icmp_ne (pc := 35) 42 dX10_isIn_35 (by decide) (fun _ => no _ (Or.inr ⟨rfl, i, by omega, c2⟩)) (fun z => absurd z c2)
  refine X_iconst (pc := 0) (x := 1) dX10_isIn_0 (by decide) ?_
  refine X_istore_n (pc := 1) (L' := [(2, .int _), (0, .ref _), (1, .int _)]) dX10_isIn_1 rfl (Nat.le_of_ble_eq_true rfl) rfl ?_
  refine X_iconst (pc := 2) (x := 0) dX10_isIn_2 (by decide) ?_
  refine X_istore_n (pc := 3) (L' := [(3, .int _), (2, .int _), (0, .ref _), (1, .int _)]) dX10_isIn_3 rfl (Nat.le_of_ble_eq_true rfl) rfl ?_
  exact loop 32 0 (by omega) 1 (Or.inl ⟨rfl, fun j hj => by omega⟩)
/-- what the state lives on is the same -/
def RFr (R R' : Nat → Nat) (I I' : Nat → Nat → Int32) (S S' : Nat → List Int32) (F F' : Nat → Int32) : Prop :=
  (∀ j, relR j → R' j = R j) ∧ (∀ j, relI j → I' j = I j) ∧ (∀ j, relS j → S' j = S j) ∧ (∀ j, relF j → F' j = F j)
theorem RFr.ms (wf : Wf N L) (ms : MS N L R I (up S 81 []) F) (r : RFr R R' I I' S S' F F') : MS N L R' I' (up S' 81 []) F' := ms.cg ⟨wf.1, wf.2.1⟩ r.1 r.2.1 (fun j hj => by
    by_cases e : j = 81
    · subst e; rw [up_same, up_same]
    · rw [up_ne e, up_ne e]; exact r.2.2.1 j hj) r.2.2.2
set_option maxHeartbeats 4000000 in
theorem isRight_ok (g : GX) (wf : Wf N L) (w : MW A X R I S F h) (ms : MS N L R I (up S 81 []) F) {T : List Int32} {k : Nat} (hk : k < N 0) (hT : S 81 = T) (hTl : T.length = 98 + N (150 + k)) (hTB : IsB T) :
    MT g MX10_isRight ({ frames := 9, cells := 0, slots := 0, locals := 208 } : Room) [.ref (A 96), .int (nI k)] h (RI fun r h' => ∃ R' I' S' F', MW A X R' I' S' F' h' ∧ RFr R R' I I' S S' F F' ∧ ((r = 1 ∧ rightB N T k) ∨ (r = 0 ∧ ¬ rightB N T k))) := by
  refine MT.of (by decide) (Nat.le_of_ble_eq_true rfl) ?_
  have hk6 : k < 6 := Nat.lt_of_lt_of_le hk wf.1
  have bk : vp_in (nI k) 6 := vp_in_nI hk6 (by decide)
  have ck : (nI k).toNatClampNeg = k := nI_clamp (by omega)
  have km := ms.kk hk
  have ko := wf.kk hk
  obtain ⟨f81, c81, p81, -⟩ := w.s 81 rfl
  rw [hT] at p81
  have hrd : rightB N T k ↔ if N (100 + k) = 1 then mP (N (120 + k)) (h2p (sub T 0 98)) ≠ none ∧ outB (sub T 0 98) (mP (N (120 + k)) (h2p (sub T 0 98))) = sub T 98 48 else isSg N k (sub T 0 98) (num T 98 (N (150 + k))) := Iff.rfl
  generalize hPost : (RI fun r h' => ∃ R' I' S' F', MW A X R' I' S' F' h' ∧ RFr R R' I I' S S' F F' ∧ ((r = 1 ∧ rightB N T k) ∨ (r = 0 ∧ ¬ rightB N T k))) = Post
  have i68 : I 68 k = nI (N (150 + k)) := km.2.2.2.1
  have h26 : F 26 = 0 := ms.1.2.2.2.2.2.2
  refine X_aload_n (pc := 0) 0 dX10_isRight_0 rfl rfl ?_
  refine X_getfield (pc := 1) dX10_isRight_1 fg_X10_492_11 (MW.ob w) mf_61 ?_
  refine X_iload_n (pc := 4) 1 dX10_isRight_4 rfl rfl ?_
  refine X_iaload (pc := 5) dX10_isRight_5 (w.i 61 rfl) bk ?_
  refine X_iconst (pc := 6) (x := 2) dX10_isRight_6 (by decide) ?_
  rw [ck, km.1]
  by_cases t1 : N (100 + k) = 1
  rotate_left
  · obtain ⟨t2, l1, l2, hlim, e1, e2, hs48⟩ := ko.two t1
    obtain ⟨hm1, hmo, hd0, hdm, hesz, hdb, hdb2, hs2, -⟩ := ko.two' t1
    obtain ⟨sh, hsh, mo, f542, f552, hbt, i67, i69, -⟩ := km.2.2.2.2.2 t2
    have hn : 0 < limN N k ∧ limN N k ≤ 64 ∧ N (150 + k) ≤ 4 * limN N k := by omega
    rw [if_neg t1] at hrd
    generalize hnn : limN N k = n at *
    rw [t2]
    refine X_icmp_ne (pc := 7) 53 dX10_isRight_7 (by decide) (fun z => absurd rfl z) (fun _ => ?_)
    have hmd : h (A (500 + (2 + k))) = some (Ob 12 [.ref (A (510 + (2 + k))), .ref (A (520 + (2 + k))), .int (nI n), .int (nI sh)]) := by
      have := w.md (j := 2 + k) (by omega) (by omega)
      rwa [show 540 + (2 + k) = 542 + k by omega, show 550 + (2 + k) = 552 + k by omega, f542, f552] at this
    refine X_aload_n (pc := 10) 0 dX10_isRight_10 rfl rfl ?_
    refine X_getfield (pc := 11) dX10_isRight_11 fg_X10_534_11 (MW.ob w) mf_81 ?_
    refine X_bipush (pc := 14) (x := 98) dX10_isRight_14 (by decide) ?_
    refine X_aload_n (pc := 16) 0 dX10_isRight_16 rfl rfl ?_
    refine X_getfield (pc := 17) dX10_isRight_17 fg_X10_510_11 (MW.ob w) mf_68 ?_
    refine X_iload_n (pc := 20) 1 dX10_isRight_20 rfl rfl ?_
    refine X_iaload (pc := 21) dX10_isRight_21 (w.i 68 rfl) bk ?_
    refine X_aload_n (pc := 22) 0 dX10_isRight_22 rfl rfl ?_
    refine X_getfield (pc := 23) dX10_isRight_23 fg_X10_549_11 (MW.ob w) mf_88 ?_
    refine X_aload_n (pc := 26) 0 dX10_isRight_26 rfl rfl ?_
    refine X_getfield (pc := 27) dX10_isRight_27 fg_X10_503_11 (MW.ob w) mf_66 ?_
    refine X_iload_n (pc := 30) 1 dX10_isRight_30 rfl rfl ?_
    refine X_aaload (pc := 31) dX10_isRight_31 (w.o 66 rfl) (fun _ => rfl) bk ?_
    rw [ck, i68]
    refine XX.eqst (st' := [.ref (A (500 + (2 + k))), .ref (A 88), .int (nI (N (150 + k))), .int 98, .ref (A 81)]) (by rw [show 500 + (2 + k) = 502 + k by omega]; rfl) ?_
    refine X_getfield (pc := 32) dX10_isRight_32 fg_X10_13_12 hmd (by first | rfl | assumption) ?_
    refine X_isv (pc := 35) _ dX10_isRight_35 cs_X10_217 rfl (load_ok g (fr := 98) (many := N (150 + k)) (n := n) c81 (w.i 88 rfl) (by omega) (by decide) hn.2.1 (by decide) hn.2.2) nX10_load (Nat.le_of_ble_eq_true rfl) (Nat.le_of_ble_eq_true rfl) (Nat.le_of_ble_eq_true rfl) (Nat.le_of_ble_eq_true rfl) (fun h1 q1 => ?_)
    obtain ⟨fr, hfr, -, rfl⟩ := q1
    have hvr : V n fr = num T 98 (N (150 + k)) := by rw [hfr]; exact bsm_cg fun q hq => p81 _ (by omega)
    have w1 := w.setI 88 rfl fr
    generalize hset h (A 88) (Ai false 0 64 fr) = h1 at *
    have i88 : (up I 88 fr) 88 = fr := up_same _ _ _
    have iot : ∀ j, j ≠ 88 → (up I 88 fr) j = I j := fun j hj => up_ne hj
    generalize up I 88 fr = I1 at *
    have mo1 : MoS I1 F (2 + k) n (N (130 + k)) := by
      rcases mo with ⟨z, -, -⟩ | ⟨z, -, -⟩ | ⟨z1, z2, s, z3, z4, z5, z6, z7, z8, z9⟩
      · omega
      · omega
      · exact Or.inr (Or.inr ⟨z1, z2, s, z3, z4, z5, by rw [iot _ (by omega)]; exact z6, by rw [iot _ (by omega)]; exact z7, by rw [iot _ (by omega)]; exact z8, z9⟩)
    refine X_aload_n (pc := 38) 0 dX10_isRight_38 rfl rfl ?_
    refine X_iload_n (pc := 39) 1 dX10_isRight_39 rfl rfl ?_
    refine X_aload_n (pc := 40) 0 dX10_isRight_40 rfl rfl ?_
    refine X_getfield (pc := 41) dX10_isRight_41 fg_X10_534_11 (MW.ob w1) mf_81 ?_
    refine X_iconst (pc := 44) (x := 0) dX10_isRight_44 (by decide) ?_
    refine X_aload_n (pc := 45) 0 dX10_isRight_45 rfl rfl ?_
    refine X_getfield (pc := 46) dX10_isRight_46 fg_X10_549_11 (MW.ob w1) mf_88 ?_
    refine X_ivi (pc := 49) _ dX10_isRight_49 cv_X10_697_11 (MW.ob w1) rfl (isSigned_ok g w1 h26 (key := k) (n := n) (sh := sh) (s := N (160 + k)) (e := N (140 + k)) (mv := N (130 + k)) (ki := 81) (fr := 0) (db := dbN N k) hk6 mo1 hm1 f542 f552 ⟨hn.1, hn.2.1⟩ hsh (by rw [iot 69 (by decide)]; exact i69) hs2 (by rw [iot 67 (by decide)]; exact i67) (by omega) (by rw [hbt]; exact hesz) hdb (by omega) rfl (by decide) rfl (by rw [hT]; exact hTB) (by rw [hT]; omega)) nX10_isSigned (Nat.le_of_ble_eq_true rfl) (Nat.le_of_ble_eq_true rfl) (Nat.le_of_ble_eq_true rfl) (Nat.le_of_ble_eq_true rfl) (fun r5 h5 q5 => ?_)
    obtain ⟨S5, f5, w5, fS5, hc⟩ := q5
    rw [i88, hvr, hT, hbt] at hc
    have fr5 : RFr R R I (up I1 90 f5) S S5 F F := ⟨fun _ _ => rfl, fun j hj => by unfold relI at hj; rw [up_ne (by omega)]; exact iot j (by omega), fun j hj => fS5 j (relS_r hj), fun _ _ => rfl⟩
    have hisg : isSg N k (sub T 0 98) (num T 98 (N (150 + k))) ↔ (num T 98 (N (150 + k)) < N (130 + k) ∧ sgOk (sub T 0 98) (num T 98 (N (150 + k)) ^ N (140 + k) % N (130 + k)) (dbN N k) (N (160 + k)) (clr (bitsN (N (130 + k))))) := Iff.rfl
    rcases hc with ⟨rfl, hc⟩ | ⟨rfl, hc⟩
    · refine X_zreturn (pc := 52) dX10_isRight_52 rfl (by first | exact Or.inl rfl | exact Or.inr rfl | assumption | exact zo_if) (Nat.le_of_ble_eq_true rfl) (Nat.le_of_ble_eq_true rfl) ?_
      subst hPost
      exact ⟨1, rfl, R, _, S5, F, w5, fr5, Or.inl ⟨rfl, hrd.mpr (hisg.mpr hc)⟩⟩
    · refine X_zreturn (pc := 52) dX10_isRight_52 rfl (by first | exact Or.inl rfl | exact Or.inr rfl | assumption | exact zo_if) (Nat.le_of_ble_eq_true rfl) (Nat.le_of_ble_eq_true rfl) ?_
      subst hPost
      exact ⟨0, rfl, R, _, S5, F, w5, fr5, Or.inr ⟨rfl, fun z => hc (hisg.mp (hrd.mp z))⟩⟩
  have hT146 : T.length = 146 := by
    rcases ko.2.2.2 with z | z
    · rw [hTl, z.2.2.2]
    · exact absurd (z.1.symm.trans t1) (by decide)
  have hsk : 0 < N (120 + k) ∧ N (120 + k) < qP := by
    rcases ko.2.2.2 with z | z
    · exact ⟨z.2.1, z.2.2.1⟩
    · exact absurd (z.1.symm.trans t1) (by decide)
  obtain ⟨m1, m2, m3, m4, -, -, m7⟩ := ms.1
  have iV : V 12 (I (530 + k)) = N (120 + k) := (km.2.2.2.2.1 t1).2.2
  rw [if_pos t1] at hrd
  rw [t1]
  generalize hsk' : N (120 + k) = sk at *
  generalize hinp : sub T 0 98 = inp at *
  have no : ∀ R' I' S' F' h', MW A X R' I' S' F' h' → RFr R R' I I' S S' F F' → ¬ (mP sk (h2p inp) ≠ none ∧ outB inp (mP sk (h2p inp)) = sub T 98 48) → Post (.returned (some (.int 0))) h' := by
    intro R' I' S' F' h' w' b' c'
    subst hPost
    exact ⟨0, rfl, R', I', S', F', w', b', Or.inr ⟨rfl, fun z => c' (hrd.mp z)⟩⟩
  refine X_icmp_ne (pc := 7) 53 dX10_isRight_7 (by decide) (fun _ => ?_) (fun z => absurd z (by decide))
  refine X_aload_n (pc := 53) 0 dX10_isRight_53 rfl rfl ?_
  refine X_aload_n (pc := 54) 0 dX10_isRight_54 rfl rfl ?_
  refine X_getfield (pc := 55) dX10_isRight_55 fg_X10_534_11 (MW.ob w) mf_81 ?_
  refine X_iconst (pc := 58) (x := 0) dX10_isRight_58 (by decide) ?_
  refine X_bipush (pc := 59) (x := 98) dX10_isRight_59 (by decide) ?_
  refine X_aload_n (pc := 61) 0 dX10_isRight_61 rfl rfl ?_
  refine X_getfield (pc := 62) dX10_isRight_62 fg_X10_564_11 (MW.ob w) mf_93 ?_
  refine X_ivv (pc := 65) _ dX10_isRight_65 cv_X10_650_11 (MW.ob w) rfl (toPoint_ok g w (kb := 81) (nb := 1208) (at' := 0) rfl (by decide) (by decide) (by rw [hT]; exact hTB) (by rw [hT]; omega) m1 m2 m3 m4) nX10_toPoint (Nat.le_of_ble_eq_true rfl) (Nat.le_of_ble_eq_true rfl) (Nat.le_of_ble_eq_true rfl) (Nat.le_of_ble_eq_true rfl) (fun h4 q4 => ?_)
  obtain ⟨R4, S4, F4, w4, fR4, fS4, f264, fF4, z4, sp4⟩ := q4
  rw [hT, hinp] at sp4
  have fr4 : RFr R R4 I I S S4 F F4 := by
    refine ⟨fun j hj => fR4 j (relR_t hj), fun j _ => rfl, fun j hj => fS4 j (relS_h hj), fun j hj => ?_⟩
    by_cases e : j = 26
    · subst e; rw [f264, m7]
    · unfold relF at hj
      exact fF4 j e (by omega) (by omega) (by omega) (by omega)
  have on4 : OnP (spt R4 F4 8) := by rw [sp4]; exact h2p_on inp
  refine X_aload_n (pc := 68) 0 dX10_isRight_68 rfl rfl ?_
  refine X_getfield (pc := 69) dX10_isRight_69 fg_X10_564_11 (MW.ob w4) mf_93 ?_
  refine X_getfield (pc := 72) dX10_isRight_72 fg_X10_136_13 (w4.sp 8 (by decide)) (by first | rfl | assumption) ?_
  by_cases c3 : F4 (400 + 8) = 0
  rotate_left
  · refine X_if_eq (pc := 75) 80 dX10_isRight_75 (by decide) (fun z => absurd z c3) (fun _ => ?_)
    refine X_iconst (pc := 78) (x := 0) dX10_isRight_78 (by decide) ?_
    refine X_zreturn (pc := 79) dX10_isRight_79 rfl (by first | exact Or.inl rfl | exact Or.inr rfl | assumption | exact zo_if) (Nat.le_of_ble_eq_true rfl) (Nat.le_of_ble_eq_true rfl) ?_
    exact no _ _ _ _ _ w4 fr4 (fun z => z.1 (by rw [← sp4, spt_no c3, mP_none]))
  refine X_if_eq (pc := 75) 80 dX10_isRight_75 (by decide) (fun _ => ?_) (fun z => absurd c3 z)
  refine X_aload_n (pc := 80) 0 dX10_isRight_80 rfl rfl ?_
  refine X_aload_n (pc := 81) 0 dX10_isRight_81 rfl rfl ?_
  refine X_getfield (pc := 82) dX10_isRight_82 fg_X10_475_11 (MW.ob w4) mf_64 ?_
  refine X_iload_n (pc := 85) 1 dX10_isRight_85 rfl rfl ?_
  refine X_aaloadA (pc := 86) dX10_isRight_86 (w4.o 64 rfl) bk ?_
  rw [ck]
  refine XX.eqst (st' := [.ref (A (530 + k)), .ref (A 96)]) rfl ?_
  refine X_aload_n (pc := 87) 0 dX10_isRight_87 rfl rfl ?_
  refine X_getfield (pc := 88) dX10_isRight_88 fg_X10_564_11 (MW.ob w4) mf_93 ?_
  refine X_aload_n (pc := 91) 0 dX10_isRight_91 rfl rfl ?_
  refine X_getfield (pc := 92) dX10_isRight_92 fg_X10_564_11 (MW.ob w4) mf_93 ?_
  refine X_ivv (pc := 95) _ dX10_isRight_95 cv_X10_446_11 (MW.ob w4) rfl (mul_ok g w4 (sa := 8) (t := 8) (ak := A (530 + k)) (kv := sk) (by decide) (by decide) (w4.lt (k := 208) rfl) z4 on4 (Nat.lt_trans hsk.2 qP_2) (fun {R2 F2 h2} w2 _ => by have := OpM.i w2 (530 + k) (kd530 hk6) (n := 12) (by decide) (by decide); rwa [iV] at this)) nX10_multiply (Nat.le_of_ble_eq_true rfl) (Nat.le_of_ble_eq_true rfl) (Nat.le_of_ble_eq_true rfl) (Nat.le_of_ble_eq_true rfl) (fun h5 q5 => ?_)
  obtain ⟨R5, F5, w5, fR5, fF5, z5, -, sp5, lt5⟩ := q5
  rw [sp4] at sp5
  have fr5 : RFr R R5 I I S S4 F F5 := by
    refine ⟨fun j hj => ?_, fr4.2.1, fr4.2.2.1, fun j hj => ?_⟩
    · rw [fR5 j (relR_m8 hj)]; exact fr4.1 j hj
    · have := fr4.2.2.2 j hj
      unfold relF at hj
      rw [fF5 j (by omega) (by omega)]
      exact this
  refine X_aload_n (pc := 98) 0 dX10_isRight_98 rfl rfl ?_
  refine X_getfield (pc := 99) dX10_isRight_99 fg_X10_564_11 (MW.ob w5) mf_93 ?_
  refine X_getfield (pc := 102) dX10_isRight_102 fg_X10_136_13 (w5.sp 8 (by decide)) (by first | rfl | assumption) ?_
  by_cases c5 : F5 (400 + 8) = 0
  rotate_left
  · refine X_if_eq (pc := 105) 110 dX10_isRight_105 (by decide) (fun z => absurd z c5) (fun _ => ?_)
    refine X_iconst (pc := 108) (x := 0) dX10_isRight_108 (by decide) ?_
    refine X_zreturn (pc := 109) dX10_isRight_109 rfl (by first | exact Or.inl rfl | exact Or.inr rfl | assumption | exact zo_if) (Nat.le_of_ble_eq_true rfl) (Nat.le_of_ble_eq_true rfl) ?_
    exact no _ _ _ _ _ w5 fr5 (fun z => z.1 (sp5.symm.trans (spt_no c5)))
  refine X_if_eq (pc := 105) 110 dX10_isRight_105 (by decide) (fun _ => ?_) (fun z => absurd c5 z)
  have so5 : SpO R5 F5 8 := ⟨c5, lt5 c5, by rw [sp5]; exact mP_on (h2p_on inp) sk⟩
  have hP : mP sk (h2p inp) ≠ none := by rw [← sp5]; exact spt_so c5
  have s81 : S4 81 = T := by rw [fr5.2.2.1 81 (by unfold relS; omega)]; exact hT
  refine X_aload_n (pc := 110) 0 dX10_isRight_110 rfl rfl ?_
  refine X_aload_n (pc := 111) 0 dX10_isRight_111 rfl rfl ?_
  refine X_getfield (pc := 112) dX10_isRight_112 fg_X10_534_11 (MW.ob w5) mf_81 ?_
  refine X_iconst (pc := 115) (x := 0) dX10_isRight_115 (by decide) ?_
  refine X_aload_n (pc := 116) 0 dX10_isRight_116 rfl rfl ?_
  refine X_getfield (pc := 117) dX10_isRight_117 fg_X10_564_11 (MW.ob w5) mf_93 ?_
  refine X_ivv (pc := 120) _ dX10_isRight_120 cv_X10_693_11 (MW.ob w5) rfl (output_ok g w5 (kb := 81) (nb := 1208) (fr := 0) (s := 8) rfl (by decide) (by decide) (by decide) (by rw [s81]; exact hTB) (by rw [s81]; omega) (by decide) so5) nX10_output (Nat.le_of_ble_eq_true rfl) (Nat.le_of_ble_eq_true rfl) (Nat.le_of_ble_eq_true rfl) (Nat.le_of_ble_eq_true rfl) (fun h6 q6 => ?_)
  obtain ⟨S6, w6, fS6, s27⟩ := q6
  rw [s81, hinp, sp5] at s27
  have fr6 : RFr R R5 I I S S6 F (up F5 26 0) := by
    refine ⟨fr5.1, fr5.2.1, fun j hj => ?_, fun j hj => ?_⟩
    · rw [fS6 j (by unfold relS at hj; omega) (by unfold relS at hj; omega) (by unfold relS at hj; omega)]; exact fr5.2.2.1 j hj
    · by_cases e : j = 26
      · subst e; rw [up_same, m7]
      · rw [up_ne e]; exact fr5.2.2.2 j hj
  have t81 : S6 81 = T := by rw [fr6.2.2.1 81 (by unfold relS; omega)]; exact hT
  have dl : (outB inp (mP sk (h2p inp))).length = 48 := sha384_len _
  generalize outB inp (mP sk (h2p inp)) = dg at *
  have hdg : dg = sub T 98 48 ↔ ∀ j, j < 48 → dg.getD j 0 = T.getD (98 + j) 0 := sub_eq_l dl
  obtain ⟨f27, c27, p27, -⟩ := w6.s 27 rfl
  obtain ⟨f81, c81, p81, -⟩ := w6.s 81 rfl
  rw [s27] at p27
  rw [t81] at p81
  have loop : ∀ m i, i + m = 48 → ∀ v, Agr (fun j => dg.getD j 0 = T.getD (98 + j) 0) i 48 v → XX g MX10_isRight ({ frames := 9, cells := 0, slots := 0, locals := 208 } : Room) Post 0 0 127 [(3, .int (nI i)), (2, .int v), (0, .ref (A 96)), (1, .int (nI k))] [] h6 := by
    intro m
    induction m with
    | zero =>
      intro i hi v hv
      have ei : i = 48 := by omega
      subst ei
      refine X_iload_n (pc := 127) 0 dX10_isRight_127 rfl rfl ?_
      refine X_bipush (pc := 128) (x := 48) dX10_isRight_128 (by decide) ?_
      refine X_cge (a := 48) (b := 48) (pc := 130) 167 dX10_isRight_130 (by decide) (by omega) (by omega) (fun _ => ?_) (fun z => absurd z (by omega))
      refine X_iload_n (pc := 167) 1 dX10_isRight_167 rfl rfl ?_
      rcases hv with ⟨rfl, hv⟩ | ⟨rfl, j, hj, hv⟩
      · refine X_zreturn (pc := 168) dX10_isRight_168 rfl (by first | exact Or.inl rfl | exact Or.inr rfl | assumption | exact zo_if) (Nat.le_of_ble_eq_true rfl) (Nat.le_of_ble_eq_true rfl) ?_
        subst hPost
        exact ⟨1, rfl, _, _, _, _, w6, fr6, Or.inl ⟨rfl, hrd.mpr ⟨hP, hdg.mpr hv⟩⟩⟩
      · refine X_zreturn (pc := 168) dX10_isRight_168 rfl (by first | exact Or.inl rfl | exact Or.inr rfl | assumption | exact zo_if) (Nat.le_of_ble_eq_true rfl) (Nat.le_of_ble_eq_true rfl) ?_
        exact no _ _ _ _ _ w6 fr6 (fun z => hv (hdg.mp z.2 j hj))
    | succ m ih =>
      intro i hi v hv
      have no : ∀ v' : Int32, Agr (fun j => dg.getD j 0 = T.getD (98 + j) 0) (i + 1) 48 0 → XX g MX10_isRight ({ frames := 9, cells := 0, slots := 0, locals := 208 } : Room) Post 0 0 159 [(3, .int (nI i)), (2, .int v'), (0, .ref (A 96)), (1, .int (nI k))] [] h6 := by
        intro v' ha
        refine X_iconst (pc := 159) (x := 0) dX10_isRight_159 (by decide) ?_
        refine X_istore_n (pc := 160) (L' := [(2, .int _), (3, .int _), (0, .ref _), (1, .int _)]) dX10_isRight_160 rfl (Nat.le_of_ble_eq_true rfl) rfl ?_
        refine X_iinc (pc := 161) (L' := [(3, .int (_ + 1)), (2, .int _), (0, .ref _), (1, .int _)]) 1 dX10_isRight_161 rfl rfl (Nat.le_of_ble_eq_true rfl) rfl ?_
        refine X_goto (pc := 164) 127 dX10_isRight_164 (by decide) ?_
        rw [show nI i + 1 = nI (i + 1) from nI_add i 1]
        refine XX.pick (L' := [(3, .int _), (2, .int _), (0, .ref _), (1, .int _)]) [0, 1, 2, 3] rfl ?_
        exact ih (i + 1) (by omega) 0 ha
      refine X_iload_n (pc := 127) 0 dX10_isRight_127 rfl rfl ?_
      refine X_bipush (pc := 128) (x := 48) dX10_isRight_128 (by decide) ?_
      refine X_cge (b := 48) (pc := 130) 167 dX10_isRight_130 (by decide) (by omega) (by omega) (fun z => absurd z (by omega)) (fun _ => ?_)
      refine X_iload_n (pc := 133) 1 dX10_isRight_133 rfl rfl ?_
      by_cases c1 : v = 0
      · exact X_if_eq (pc := 134) 159 dX10_isRight_134 (by decide) (fun _ => no _ (hv.no c1)) (fun z => absurd c1 z)
      refine X_if_eq (pc := 134) 159 dX10_isRight_134 (by decide) (fun z => absurd z c1) (fun _ => ?_)
      have b7 : vp_in (nI i) 48 := vp_in_nI (by omega) (by omega)
      have c7 : (nI i).toNatClampNeg = i := nI_clamp (by omega)
      have b8' : vp_in (nI (98 + i)) 1208 := vp_in_nI (by omega) (by omega)
      have c8' : (nI (98 + i)).toNatClampNeg = 98 + i := nI_clamp (by omega)
      refine X_aload_n (pc := 137) 2 dX10_isRight_137 rfl rfl ?_
      refine X_getfield (pc := 138) dX10_isRight_138 fg_X10_283_11 (MW.ob w6) mf_27 ?_
      refine X_iload_n (pc := 141) 0 dX10_isRight_141 rfl rfl ?_
      refine X_baload (pc := 142) dX10_isRight_142 c27 b7 ?_
      refine X_aload_n (pc := 143) 2 dX10_isRight_143 rfl rfl ?_
      refine X_getfield (pc := 144) dX10_isRight_144 fg_X10_534_11 (MW.ob w6) mf_81 ?_
      refine X_bipush (pc := 147) (x := 98) dX10_isRight_147 (by decide) ?_
      refine X_iload_n (pc := 149) 0 dX10_isRight_149 rfl rfl ?_
      refine X_iadd (pc := 150) dX10_isRight_150 ?_
      rw [show (98 : Int32) + nI i = nI (98 + i) from nI_add 98 i]
      refine X_baload (pc := 151) dX10_isRight_151 c81 b8' ?_
      rw [c7, c8', p27 _ (by omega), p81 _ (by omega)]
      by_cases c2 : dg.getD i 0 = T.getD (98 + i) 0
      · refine X_icmp_ne (pc := 152) 159 dX10_isRight_152 (by decide) (fun z => absurd c2 z) (fun _ => ?_)
        refine X_iconst (pc := 155) (x := 1) dX10_isRight_155 (by decide) ?_
        refine X_goto (pc := 156) 160 dX10_isRight_156 (by decide) ?_
        refine X_istore_n (pc := 160) (L' := [(2, .int _), (3, .int _), (0, .ref _), (1, .int _)]) dX10_isRight_160 rfl (Nat.le_of_ble_eq_true rfl) rfl ?_
        refine X_iinc (pc := 161) (L' := [(3, .int (_ + 1)), (2, .int _), (0, .ref _), (1, .int _)]) 1 dX10_isRight_161 rfl rfl (Nat.le_of_ble_eq_true rfl) rfl ?_
        refine X_goto (pc := 164) 127 dX10_isRight_164 (by decide) ?_
        rw [show nI i + 1 = nI (i + 1) from nI_add i 1]
        refine XX.pick (L' := [(3, .int _), (2, .int _), (0, .ref _), (1, .int _)]) [0, 1, 2, 3] rfl ?_
        exact ih (i + 1) (by omega) 1 (hv.yes c1 c2)
      · exact X_icmp_ne (pc := 152) 159 dX10_isRight_152 (by decide) (fun _ => no _ (Or.inr ⟨rfl, i, by omega, c2⟩)) (fun z => absurd z c2)
  refine X_iconst (pc := 123) (x := 1) dX10_isRight_123 (by decide) ?_
  refine X_istore_n (pc := 124) (L' := [(2, .int _), (0, .ref _), (1, .int _)]) dX10_isRight_124 rfl (Nat.le_of_ble_eq_true rfl) rfl ?_
  refine X_iconst (pc := 125) (x := 0) dX10_isRight_125 (by decide) ?_
  refine X_istore_n (pc := 126) (L' := [(3, .int _), (2, .int _), (0, .ref _), (1, .int _)]) dX10_isRight_126 rfl (Nat.le_of_ble_eq_true rfl) rfl ?_
  exact loop 48 0 (by omega) 1 (Or.inl ⟨rfl, fun j hj => by omega⟩)
end MRt
