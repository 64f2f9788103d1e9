set_option maxRecDepth 100000
/-! the reference: issuing -/
theorem cpt_cg {d d' : Nat → Nat} {P P' : Nat → PP} {n : Nat} (h1 : ∀ i, i < n → d i = d' i) (h2 : ∀ i, i < n → P i = P' i) : cpt d P n = cpt d' P' n := by
  induction n with
  | zero => rfl
  | succ n ih =>
    show adP (cpt d P n) (mP (d n) (P n)) = adP (cpt d' P' n) (mP (d' n) (P' n))
    rw [ih (fun i hi => h1 i (by omega)) (fun i hi => h2 i (by omega)), h1 n (by omega), h2 n (by omega)]
theorem cD_cg {ek : List Int32} {qa qa' qg qg' : Nat → PP} {i : Nat} (h1 : qa i = qa' i) (h2 : qg i = qg' i) : cD ek qa qg i = cD ek qa' qg' i := by
  unfold cD
  rw [h1, h2]
theorem catE_cg {P P' : Nat → PP} {n : Nat} (h : ∀ i, i < n → P i = P' i) : catE P n = catE P' n := by
  induction n with
  | zero => rfl
  | succ n ih =>
    show catE P n ++ en (P n) = catE P' n ++ en (P' n)
    rw [ih (fun i hi => h i (by omega)), h n (by omega)]
section MIs
variable {A : Nat → Nat} {X : AH} {R R' : Nat → Nat} {I I' : Nat → Nat → Int32} {S S' : Nat → List Int32} {F F' : Nat → Int32} {h : AH} {N : Nat → Nat} {L : Nat → List Int32}
theorem isType_ok (g : GX) (w : MW A X R I S F h) {T : List Int32} (hT : S 81 = T) (hl : 2 ≤ T.length) (t : Int32) : MT g MX10_isType ({ frames := 0, cells := 0, slots := 0, locals := 0 } : Room) [.ref (A 96), .int t] h (RI fun r h' => h' = h ∧ ((r = 1 ∧ T.getD 0 0 = 0 ∧ T.getD 1 0 = t) ∨ (r = 0 ∧ ¬ (T.getD 0 0 = 0 ∧ T.getD 1 0 = t)))) := by
  refine MT.of (by decide) (Nat.le_of_ble_eq_true rfl) ?_
  obtain ⟨f81, c81, p81, -⟩ := w.s 81 rfl
  rw [hT] at p81
  have v0 : vp_in (0 : Int32) 1208 := vp_in_nI (n := 0) (by decide) (by decide)
  have v1 : vp_in (1 : Int32) 1208 := vp_in_nI (n := 1) (by decide) (by decide)
  refine X_aload_n (pc := 0) 0 dX10_isType_0 rfl rfl ?_
  refine X_getfield (pc := 1) dX10_isType_1 fg_X10_534_11 (MW.ob w) mf_81 ?_
  refine X_iconst (pc := 4) (x := 0) dX10_isType_4 (by decide) ?_
  refine X_baload (pc := 5) dX10_isType_5 c81 v0 ?_
  rw [show ((0 : Int32).toNatClampNeg) = 0 from rfl, p81 0 (by omega)]
  by_cases c1 : T.getD 0 0 = 0
  rotate_left
  · refine X_if_ne (pc := 6) 23 dX10_isType_6 (by decide) (fun _ => ?_) (fun z => absurd z c1)
    refine X_iconst (pc := 23) (x := 0) dX10_isType_23 (by decide) ?_
    refine X_zreturn (pc := 24) dX10_isType_24 rfl (by first | exact Or.inl rfl | exact Or.inr rfl | assumption | exact zo_if) (Nat.le_of_ble_eq_true rfl) (Nat.le_of_ble_eq_true rfl) ?_
    exact ⟨0, rfl, rfl, Or.inr ⟨rfl, fun z => c1 z.1⟩⟩
  refine X_if_ne (pc := 6) 23 dX10_isType_6 (by decide) (fun z => absurd c1 z) (fun _ => ?_)
  refine X_aload_n (pc := 9) 0 dX10_isType_9 rfl rfl ?_
  refine X_getfield (pc := 10) dX10_isType_10 fg_X10_534_11 (MW.ob w) mf_81 ?_
  refine X_iconst (pc := 13) (x := 1) dX10_isType_13 (by decide) ?_
  refine X_baload (pc := 14) dX10_isType_14 c81 v1 ?_
  refine X_iload_n (pc := 15) 1 dX10_isType_15 rfl rfl ?_
  rw [show ((1 : Int32).toNatClampNeg) = 1 from rfl, p81 1 (by omega)]
  by_cases c2 : T.getD 1 0 = t
  · refine X_icmp_ne (pc := 16) 23 dX10_isType_16 (by decide) (fun z => absurd c2 z) (fun _ => ?_)
    refine X_iconst (pc := 19) (x := 1) dX10_isType_19 (by decide) ?_
    refine X_goto (pc := 20) 24 dX10_isType_20 (by decide) ?_
    refine X_zreturn (pc := 24) dX10_isType_24 rfl (by first | exact Or.inl rfl | exact Or.inr rfl | assumption | exact zo_if) (Nat.le_of_ble_eq_true rfl) (Nat.le_of_ble_eq_true rfl) ?_
    exact ⟨1, rfl, rfl, Or.inl ⟨rfl, c1, c2⟩⟩
  · refine X_icmp_ne (pc := 16) 23 dX10_isType_16 (by decide) (fun _ => ?_) (fun z => absurd z c2)
    refine X_iconst (pc := 23) (x := 0) dX10_isType_23 (by decide) ?_
    refine X_zreturn (pc := 24) dX10_isType_24 rfl (by first | exact Or.inl rfl | exact Or.inr rfl | assumption | exact zo_if) (Nat.le_of_ble_eq_true rfl) (Nat.le_of_ble_eq_true rfl) ?_
    exact ⟨0, rfl, rfl, Or.inr ⟨rfl, fun z => c2 z.2⟩⟩
/-- what a search from above knows -/
def FndS (p : Nat → Bool) (m n : Nat) (f : Int32) : Prop := (f = -1 ∧ ∀ j, m ≤ j → j < n → p j = false) ∨ ∃ q, f = nI q ∧ m ≤ q ∧ q < n ∧ p q = true ∧ ∀ j, m ≤ j → j < q → p j = false
theorem FndS.step {p : Nat → Bool} {m n : Nat} {f : Int32} (h : FndS p (m + 1) n f) (hp : p m = false) : FndS p m n f := by
  rcases h with ⟨a, b⟩ | ⟨q, a, b, c, d, e⟩
  · refine Or.inl ⟨a, fun j h1 h2 => ?_⟩
    by_cases e : j = m
    · rw [e]; exact hp
    · exact b j (by omega) h2
  · refine Or.inr ⟨q, a, by omega, c, d, fun j h1 h2 => ?_⟩
    by_cases z : j = m
    · rw [z]; exact hp
    · exact e j (by omega) h2
theorem FndS.hit {p : Nat → Bool} {m n : Nat} (hm : m < n) (hp : p m = true) : FndS p m n (nI m) := Or.inr ⟨m, rfl, Nat.le_refl _, hm, hp, fun j h1 h2 => by omega⟩
theorem FndS.fin {p : Nat → Bool} {n : Nat} {f : Int32} (h : FndS p 0 n f) : (low p n = none ∧ f = -1) ∨ ∃ q, low p n = some q ∧ f = nI q ∧ q < n := by
  rcases h with ⟨a, b⟩ | ⟨q, a, b, c, d, e⟩
  · exact Or.inl ⟨low_not fun j hj => b j (Nat.zero_le _) hj, a⟩
  · exact Or.inr ⟨q, low_is c d fun j hj => e j (Nat.zero_le _) hj, a, c⟩
theorem FndS.start (p : Nat → Bool) (n : Nat) : FndS p n n (-1) := Or.inl ⟨rfl, fun j h1 h2 => by omega⟩
set_option maxHeartbeats 1000000 in
theorem keyOf_ok (g : GX) (wf : Wf N L) (w : MW A X R I S F h) (ms : MS N L R I (up S 81 []) F) (t last : Int32) : MT g MX10_keyOf ({ frames := 0, cells := 0, slots := 0, locals := 0 } : Room) [.ref (A 96), .int t, .int last] h (RI fun r h' => h' = h ∧ ((low (keyP N L t last) (N 0) = none ∧ r = -1) ∨ ∃ q, low (keyP N L t last) (N 0) = some q ∧ r = nI q ∧ q < N 0)) := by
  refine MT.of (by decide) (Nat.le_of_ble_eq_true rfl) ?_
  generalize hPost : (RI fun r h' => h' = h ∧ ((low (keyP N L t last) (N 0) = none ∧ r = -1) ∨ ∃ q, low (keyP N L t last) (N 0) = some q ∧ r = nI q ∧ q < N 0)) = Post
  have h6 := wf.1
  have s63l : (S 63).length = 192 := by have := ms.2.2.2.2.2.2.1; rwa [up_ne (by decide)] at this
  obtain ⟨f63, c63, p63, -⟩ := w.s 63 rfl
  have loop : ∀ m, m ≤ N 0 → ∀ f, FndS (keyP N L t last) m (N 0) f → XX g MX10_keyOf ({ frames := 0, cells := 0, slots := 0, locals := 0 } : Room) Post 0 0 10 [(4, .int (nI m - 1)), (3, .int f), (0, .ref (A 96)), (1, .int t), (2, .int last)] [] h := by
    intro m
    induction m with
    | zero =>
      intro _ f hf
      refine X_iload (pc := 10) 0 dX10_keyOf_10 rfl ?_
      refine X_if_lt (pc := 12) 62 dX10_keyOf_12 (by decide) (fun c_12 => ?_) (fun c_12 => ?_)
      · skip
        refine X_iload_n (pc := 62) 1 dX10_keyOf_62 rfl rfl ?_
        subst hPost
        refine X_ireturn (pc := 63) dX10_keyOf_63 rfl (Nat.le_of_ble_eq_true rfl) (Nat.le_of_ble_eq_true rfl) ?_
        exact ⟨f, rfl, rfl, hf.fin⟩
      · exact absurd (show nI 0 - 1 < 0 by decide) c_12
    | succ m ih =>
      intro hm f hf
      rw [nI_pred]
      have km := ms.kk (show m < N 0 by omega)
      have ko := wf.kk (show m < N 0 by omega)
      have bm : vp_in (nI m) 6 := vp_in_nI (by omega) (by decide)
      have cm : (nI m).toNatClampNeg = m := nI_clamp (by omega)
      have hid : (S 63).getD (32 * m + 31) 0 = (L (100 + m)).getD 31 0 := by
        have := km.2.2.1
        rw [up_ne (by decide)] at this
        rw [← this]
        unfold sub
        rw [getD_map_range (show 31 < 32 by decide)]
      have hpd : keyP N L t last m = (N (110 + m) == 1 && nI (N (100 + m)) == t && (L (100 + m)).getD 31 0 == last) := rfl
      have nxt : ∀ f', FndS (keyP N L t last) m (N 0) f' → ∀ L', L' = [(4, Value.int (nI m)), (3, .int f'), (0, .ref (A 96)), (1, .int t), (2, .int last)] → XX g MX10_keyOf ({ frames := 0, cells := 0, slots := 0, locals := 0 } : Room) Post 0 0 56 L' [] h := by
        intro f' hf' L' hL
        subst hL
        refine X_iinc (pc := 56) (L' := [(4, .int (_ + (-1))), (3, .int _), (0, .ref _), (1, .int _), (2, .int _)]) 0 dX10_keyOf_56 rfl rfl (Nat.le_of_ble_eq_true rfl) rfl ?_
        refine X_goto (pc := 59) 10 dX10_keyOf_59 (by decide) ?_
        rw [m1]
        exact ih (by omega) f' hf'
      refine X_iload (pc := 10) 0 dX10_keyOf_10 rfl ?_
      refine X_if_lt (pc := 12) 62 dX10_keyOf_12 (by decide) (fun c_12 => ?_) (fun c_12 => ?_)
      · exact absurd c_12 (nI_pos (by omega))
      · skip
        refine X_aload_n (pc := 15) 2 dX10_keyOf_15 rfl rfl ?_
        refine X_getfield (pc := 16) dX10_keyOf_16 fg_X10_495_11 (MW.ob w) mf_62 ?_
        refine X_iload (pc := 19) 0 dX10_keyOf_19 rfl ?_
        refine X_zaload (pc := 21) dX10_keyOf_21 (w.i 62 rfl) bm ?_
        rw [cm, km.2.1]
        rcases nI_z1 ko.1 with ⟨e1, e2⟩ | ⟨e1, e2⟩
        rotate_left
        · rw [e2]
          exact X_if_eq (pc := 22) 56 dX10_keyOf_22 (by decide) (fun _ => nxt f (hf.step (by rw [hpd, e1]; rfl)) _ rfl) (fun z => absurd rfl z)
        rw [e2]
        refine X_if_eq (pc := 22) 56 dX10_keyOf_22 (by decide) (fun z => absurd z (by decide)) (fun _ => ?_)
        refine X_aload_n (pc := 25) 2 dX10_keyOf_25 rfl rfl ?_
        refine X_getfield (pc := 26) dX10_keyOf_26 fg_X10_492_11 (MW.ob w) mf_61 ?_
        refine X_iload (pc := 29) 0 dX10_keyOf_29 rfl ?_
        refine X_iaload (pc := 31) dX10_keyOf_31 (w.i 61 rfl) bm ?_
        refine X_iload_n (pc := 32) 3 dX10_keyOf_32 rfl rfl ?_
        rw [cm, km.1]
        by_cases c2 : nI (N (100 + m)) = t
        rotate_left
        · exact X_icmp_ne (pc := 33) 56 dX10_keyOf_33 (by decide) (fun _ => nxt f (hf.step (by rw [hpd, e1, beq_eq_false_iff_ne.mpr c2]; rfl)) _ rfl) (fun z => absurd z c2)
        refine X_icmp_ne (pc := 33) 56 dX10_keyOf_33 (by decide) (fun z => absurd c2 z) (fun _ => ?_)
        have b6 : vp_in (nI (32 * m + 31)) 192 := vp_in_nI (by omega) (by omega)
        have c6 : (nI (32 * m + 31)).toNatClampNeg = 32 * m + 31 := nI_clamp (by omega)
        refine X_aload_n (pc := 36) 2 dX10_keyOf_36 rfl rfl ?_
        refine X_getfield (pc := 37) dX10_keyOf_37 fg_X10_499_11 (MW.ob w) mf_63 ?_
        refine X_bipush (pc := 40) (x := 32) dX10_keyOf_40 (by decide) ?_
        refine X_iload (pc := 42) 0 dX10_keyOf_42 rfl ?_
        refine X_imul (pc := 44) dX10_keyOf_44 ?_
        refine X_bipush (pc := 45) (x := 31) dX10_keyOf_45 (by decide) ?_
        refine X_iadd (pc := 47) dX10_keyOf_47 ?_
        rw [show (32 : Int32) * nI m = nI (32 * m) from pk_mul 32 m, show nI (32 * m) + 31 = nI (32 * m + 31) from nI_add _ 31]
        refine X_baload (pc := 48) dX10_keyOf_48 c63 b6 ?_
        refine X_iload_n (pc := 49) 4 dX10_keyOf_49 rfl rfl ?_
        rw [c6, p63 _ (by omega), hid]
        by_cases c3 : (L (100 + m)).getD 31 0 = last
        · refine X_icmp_ne (pc := 50) 56 dX10_keyOf_50 (by decide) (fun z => absurd c3 z) (fun _ => ?_)
          refine X_iload (pc := 53) 0 dX10_keyOf_53 rfl ?_
          refine X_istore_n (pc := 55) (L' := [(3, .int _), (4, .int _), (0, .ref _), (1, .int _), (2, .int _)]) dX10_keyOf_55 rfl (Nat.le_of_ble_eq_true rfl) rfl ?_
          refine XX.pick (L' := [(4, .int _), (3, .int _), (0, .ref _), (1, .int _), (2, .int _)]) [1, 0, 2, 3, 4] rfl ?_
          exact nxt (nI m) (FndS.hit (by omega) (by rw [hpd, e1, beq_iff_eq.mpr c2, beq_iff_eq.mpr c3]; rfl)) _ rfl
        · exact X_icmp_ne (pc := 50) 56 dX10_keyOf_50 (by decide) (fun _ => nxt f (hf.step (by rw [hpd, beq_eq_false_iff_ne.mpr c3, Bool.and_false])) _ rfl) (fun z => absurd z c3)
  refine X_iconst (pc := 0) (x := (-1)) dX10_keyOf_0 (by decide) ?_
  refine X_istore_n (pc := 1) (L' := [(3, .int _), (0, .ref _), (1, .int _), (2, .int _)]) dX10_keyOf_1 rfl (Nat.le_of_ble_eq_true rfl) rfl ?_
  refine X_aload_n (pc := 2) 1 dX10_keyOf_2 rfl rfl ?_
  refine X_getfield (pc := 3) dX10_keyOf_3 fg_X10_626_11 (MW.ob w) mf_70 ?_
  refine X_iconst (pc := 6) (x := 1) dX10_keyOf_6 (by decide) ?_
  rw [ms.f70]
  refine X_isub (pc := 7) dX10_keyOf_7 ?_
  refine X_istore (pc := 8) (L' := [(4, .int _), (3, .int _), (0, .ref _), (1, .int _), (2, .int _)]) dX10_keyOf_8 (Nat.le_of_ble_eq_true rfl) rfl ?_
  exact loop (N 0) (Nat.le_refl _) _ (FndS.start _ _)
set_option maxHeartbeats 4000000 in
theorem signs_ok (g : GX) (wf : Wf N L) (w : MW A X R I S F h) (ms : MS N L R I (up S 81 []) F) {T : List Int32} {k : Nat} (hk : k < N 0) (ht : N (100 + k) ≠ 1) (hT : S 81 = T) (hTl : T.length = 3 + N (150 + k)) :
    MT g MX10_signs ({ frames := 6, cells := 0, slots := 0, locals := 161 } : Room) [.ref (A 96), .int (nI k)] h (RI (MQ3 A X (sSigns N L T k))) := by
  refine MT.of (by decide) (Nat.le_of_ble_eq_true rfl) ?_
  obtain ⟨f81, c81, p81, -⟩ := w.s 81 rfl
  rw [hT] at p81
  have hk6 : k < 6 := Nat.lt_of_lt_of_le hk wf.1
  have ko := wf.kk hk
  have km := ms.kk hk
  obtain ⟨t2, l1, l2, hlim, e1, e2, hs48⟩ := ko.two ht
  obtain ⟨hm1, hmo, hd0, hdm, hesz, hdb, hdb2, hs2, -⟩ := ko.two' ht
  obtain ⟨sh, hsh, mo, f542, f552, hbt, i67, i69, iV⟩ := km.2.2.2.2.2 t2
  have i68 : I 68 k = nI (N (150 + k)) := km.2.2.2.1
  have hV := mo.V hk6
  have bk : vp_in (nI k) 6 := vp_in_nI hk6 (by decide)
  have ck : (nI k).toNatClampNeg = k := nI_clamp (by omega)
  have hn : 0 < limN N k ∧ limN N k ≤ 64 ∧ N (150 + k) ≤ 4 * limN N k := by omega
  have k510 := (kd_m (j := 2 + k) (by omega) (by omega)).2.1
  have hsd : sSigns N L T k = if num T 3 (N (150 + k)) < N (130 + k) ∧ (num T 3 (N (150 + k)) ^ N (120 + k) % N (130 + k)) ^ N (140 + k) % N (130 + k) = num T 3 (N (150 + k)) then (nI (N (150 + k)), N, up L 1 (byN (num T 3 (N (150 + k)) ^ N (120 + k) % N (130 + k)) (N (150 + k)))) else (-4, N, L) := rfl
  generalize hnn : limN N k = n at *
  generalize hv : num T 3 (N (150 + k)) = v at *
  generalize hPost : RI (MQ3 A X (sSigns N L T k)) = Post
  have md : ∀ {I' S' h'}, MW A X R I' S' F h' → h' (A (500 + (2 + k))) = some (Ob 12 [.ref (A (510 + (2 + k))), .ref (A (520 + (2 + k))), .int (nI n), .int (nI sh)]) := by
    intro I' S' h' w'
    have := w'.md (j := 2 + k) (by omega) (by omega)
    rwa [show 540 + (2 + k) = 542 + k by omega, show 550 + (2 + k) = 552 + k by omega, f542, f552] at this
  have moi : ∀ {I'}, (∀ j, 500 ≤ j → j < 600 → I' j = I j) → MoS I' F (2 + k) n (N (130 + k)) := by
    intro I' a1
    rcases mo with ⟨z, -, -⟩ | ⟨z, -, -⟩ | ⟨z1, z2, s, z3, z4, z5, z6, z7, z8, z9⟩
    · omega
    · omega
    · exact Or.inr (Or.inr ⟨z1, z2, s, z3, z4, z5, by rw [a1 _ (by omega) (by omega)]; exact z6, by rw [a1 _ (by omega) (by omega)]; exact z7, by rw [a1 _ (by omega) (by omega)]; exact z8, z9⟩)
  have msi : ∀ I', (∀ j, relI j → I' j = I j) → MS N L R I' (up S 81 []) F := fun I' hI => ms.cg ⟨wf.1, wf.2.1⟩ (fun _ _ => rfl) hI (fun _ _ => rfl) (fun _ _ => rfl)
  have no : ∀ I' h', MW A X R I' S F h' → (∀ j, relI j → I' j = I j) → ¬ (v < N (130 + k) ∧ (v ^ N (120 + k) % N (130 + k)) ^ N (140 + k) % N (130 + k) = v) → Post (.returned (some (.int (-4)))) h' := by
    intro I' h' w' hI hc
    subst hPost
    rw [hsd, if_neg hc]
    exact ⟨_, rfl, rfl, MRep.of w' (msi I' hI)⟩
  have hmd := md w
  refine X_aload_n (pc := 0) 0 dX10_signs_0 rfl rfl ?_
  refine X_getfield (pc := 1) dX10_signs_1 fg_X10_503_11 (MW.ob w) mf_66 ?_
  refine X_iload_n (pc := 4) 1 dX10_signs_4 rfl rfl ?_
  refine X_aaload (pc := 5) dX10_signs_5 (w.o 66 rfl) (fun _ => rfl) bk ?_
  rw [ck]
  refine XX.eqst (st' := [.ref (A (500 + (2 + k)))]) (by rw [show 500 + (2 + k) = 502 + k by omega]; rfl) ?_
  refine X_astore_n (pc := 6) (L' := [(2, .ref _), (0, .ref _), (1, .int _)]) dX10_signs_6 rfl (Nat.le_of_ble_eq_true rfl) rfl ?_
  refine X_aload_n (pc := 7) 1 dX10_signs_7 rfl rfl ?_
  refine X_getfield (pc := 8) dX10_signs_8 fg_X10_534_11 (MW.ob w) mf_81 ?_
  refine X_iconst (pc := 11) (x := 3) dX10_signs_11 (by decide) ?_
  refine X_aload_n (pc := 12) 1 dX10_signs_12 rfl rfl ?_
  refine X_getfield (pc := 13) dX10_signs_13 fg_X10_510_11 (MW.ob w) mf_68 ?_
  refine X_iload_n (pc := 16) 2 dX10_signs_16 rfl rfl ?_
  refine X_iaload (pc := 17) dX10_signs_17 (w.i 68 rfl) bk ?_
  refine X_aload_n (pc := 18) 1 dX10_signs_18 rfl rfl ?_
  refine X_getfield (pc := 19) dX10_signs_19 fg_X10_549_11 (MW.ob w) mf_88 ?_
  refine X_aload_n (pc := 22) 0 dX10_signs_22 rfl rfl ?_
  refine X_getfield (pc := 23) dX10_signs_23 fg_X10_13_12 hmd (by first | rfl | assumption) ?_
  rw [ck, i68]
  refine X_isv (pc := 26) _ dX10_signs_26 cs_X10_217 rfl (load_ok g (fr := 3) (many := N (150 + k)) (n := n) c81 (w.i 88 rfl) (by omega) (by decide) hn.2.1 (by decide) hn.2.2) nX10_load (Nat.le_of_ble_eq_true rfl) (Nat.le_of_ble_eq_true rfl) (Nat.le_of_ble_eq_true rfl) (Nat.le_of_ble_eq_true rfl) (fun h1 q1 => ?_)
  obtain ⟨fr, hfr, -, rfl⟩ := q1
  have hvr : V n fr = v := by rw [hfr, ← hv]; exact bsm_cg fun q hq => p81 _ (by omega)
  have w1 := w.setI 88 rfl fr
  generalize hset h (A 88) (Ai false 0 64 fr) = h1 at *
  have i88 : (up I 88 fr) 88 = fr := up_same _ _ _
  have iot : ∀ j, j ≠ 88 → (up I 88 fr) j = I j := fun j hj => up_ne hj
  generalize up I 88 fr = I1 at *
  have ir1 : ∀ j, relI j → I1 j = I j := fun j hj => iot j (by unfold relI at hj; omega)
  have o88 : OpM A h1 (A 88) n v := by have := OpM.i w1 88 rfl hn.2.1 (by decide); rwa [i88, hvr] at this
  have om : OpM A h1 (A (510 + (2 + k))) n (N (130 + k)) := by have := OpM.i w1 (510 + (2 + k)) k510 hn.2.1 (by decide); rwa [iot _ (by omega), hV] at this
  have hmd1 := md w1
  refine X_aload_n (pc := 29) 1 dX10_signs_29 rfl rfl ?_
  refine X_getfield (pc := 30) dX10_signs_30 fg_X10_549_11 (MW.ob w1) mf_88 ?_
  refine X_aload_n (pc := 33) 0 dX10_signs_33 rfl rfl ?_
  refine X_getfield (pc := 34) dX10_signs_34 fg_X10_22_12 hmd1 (by first | rfl | assumption) ?_
  refine X_aload_n (pc := 37) 0 dX10_signs_37 rfl rfl ?_
  refine X_getfield (pc := 38) dX10_signs_38 fg_X10_13_12 hmd1 (by first | rfl | assumption) ?_
  refine X_isi (pc := 41) _ dX10_signs_41 cs_X10_26 rfl (mcW g o88 om) nX10_compare (Nat.le_of_ble_eq_true rfl) (Nat.le_of_ble_eq_true rfl) (Nat.le_of_ble_eq_true rfl) (Nat.le_of_ble_eq_true rfl) (fun r2 h2 q2 => ?_)
  obtain ⟨rfl, rfl⟩ := q2
  by_cases c1 : v < N (130 + k)
  rotate_left
  · refine X_if_lt (pc := 44) 50 dX10_signs_44 (by decide) (fun z => absurd (cmpN_lt0.mp z) c1) (fun _ => ?_)
    refine X_bipush (pc := 47) (x := (-4)) dX10_signs_47 (by decide) ?_
    refine X_ireturn (pc := 49) dX10_signs_49 rfl (Nat.le_of_ble_eq_true rfl) (Nat.le_of_ble_eq_true rfl) ?_
    exact no I1 _ w1 ir1 (fun z => c1 z.1)
  refine X_if_lt (pc := 44) 50 dX10_signs_44 (by decide) (fun _ => ?_) (fun z => absurd (cmpN_lt0.mpr c1) z)
  have cs : h2 (A (530 + k)) = some (Ai false 0 64 (I (530 + k))) := by have := w1.i (530 + k) (kd530 hk6); rwa [iot _ (by omega)] at this
  have s5 := w1.sc (k := 530 + k) (by rw [kd530 hk6]; decide) (scr_k (kd530 hk6) (by decide))
  have s9 := w1.sc (k := 89) (by decide) (by decide)
  have c89 : h2 (A 89) = some (Ai false 0 64 (I 89)) := by have := w1.i 89 rfl; rwa [iot _ (by decide)] at this
  have hdl : N (120 + k) < 2 ^ (32 * n) := by rw [← iV]; exact V_lt _ _
  refine X_aload_n (pc := 50) 1 dX10_signs_50 rfl rfl ?_
  refine X_aload_n (pc := 51) 0 dX10_signs_51 rfl rfl ?_
  refine X_aload_n (pc := 52) 1 dX10_signs_52 rfl rfl ?_
  refine X_getfield (pc := 53) dX10_signs_53 fg_X10_549_11 (MW.ob w1) mf_88 ?_
  refine X_aload_n (pc := 56) 1 dX10_signs_56 rfl rfl ?_
  refine X_getfield (pc := 57) dX10_signs_57 fg_X10_475_11 (MW.ob w1) mf_64 ?_
  refine X_iload_n (pc := 60) 2 dX10_signs_60 rfl rfl ?_
  refine X_aaloadA (pc := 61) dX10_signs_61 (w1.o 64 rfl) bk ?_
  rw [ck]
  refine XX.eqst (st' := [.ref (A (530 + k)), .ref (A 88), .ref (A (500 + (2 + k))), .ref (A 96)]) rfl ?_
  refine X_bipush (pc := 62) (x := 32) dX10_signs_62 (by decide) ?_
  refine X_aload_n (pc := 64) 0 dX10_signs_64 rfl rfl ?_
  refine X_getfield (pc := 65) dX10_signs_65 fg_X10_13_12 hmd1 (by first | rfl | assumption) ?_
  refine X_imul (pc := 68) dX10_signs_68 ?_
  rw [show (32 : Int32) * nI n = nI (32 * n) from pk_mul 32 n]
  refine X_aload_n (pc := 69) 1 dX10_signs_69 rfl rfl ?_
  refine X_getfield (pc := 70) dX10_signs_70 fg_X10_552_11 (MW.ob w1) mf_89 ?_
  refine X_ivv (pc := 73) _ dX10_signs_73 cv_X10_213_11 (MW.ob w1) rfl (power_ok g w1 (j := 2 + k) (N := n) (bits := 32 * n) (moi (fun j a1 a2 => iot j (by omega))) hm1 ⟨hn.1, hn.2.1⟩ o88 cs hn.2.1 (by decide) (Nat.le_refl _) (by omega) iV hdl ⟨s5.1.1, s5.1.2.1, s5.1.2.2⟩ c89 hn.2.1 (by decide) ⟨s9.1.1, s9.1.2.1, s9.1.2.2⟩) nX10_power (Nat.le_of_ble_eq_true rfl) (Nat.le_of_ble_eq_true rfl) (Nat.le_of_ble_eq_true rfl) (Nat.le_of_ble_eq_true rfl) (fun h3 q3 => ?_)
  obtain ⟨h3', fy, w3', -, hvy, -, rfl⟩ := q3
  have w3 := w3'.setI 89 rfl fy
  generalize hset h3' (A 89) (Ai false 0 64 fy) = h3 at *
  have j89 : (up I1 89 fy) 89 = fy := up_same _ _ _
  have j88 : (up I1 89 fy) 88 = fr := by rw [up_ne (by decide)]; exact i88
  have jot : ∀ j, j ≠ 88 → j ≠ 89 → (up I1 89 fy) j = I j := fun j a1 a2 => by rw [up_ne a2]; exact iot j a1
  generalize up I1 89 fy = I3 at *
  generalize hyv : v ^ N (120 + k) % N (130 + k) = y at *
  have o89 : OpM A h3 (A 89) n y := by have := OpM.i w3 89 rfl hn.2.1 (by decide); rwa [j89, hvy] at this
  have a91 : A 89 ≠ A 91 := w3.ne (by decide) (by decide) (by decide)
  refine X_aload_n (pc := 76) 1 dX10_signs_76 rfl rfl ?_
  refine X_iload_n (pc := 77) 2 dX10_signs_77 rfl rfl ?_
  refine X_aload_n (pc := 78) 1 dX10_signs_78 rfl rfl ?_
  refine X_getfield (pc := 79) dX10_signs_79 fg_X10_552_11 (MW.ob w3) mf_89 ?_
  refine X_aload_n (pc := 82) 1 dX10_signs_82 rfl rfl ?_
  refine X_getfield (pc := 83) dX10_signs_83 fg_X10_555_11 (MW.ob w3) mf_90 ?_
  refine X_ivv (pc := 86) _ dX10_signs_86 cv_X10_602_11 (MW.ob w3) rfl (byE_ok g w3 (k := 90) hk6 (moi (fun j a1 a2 => jot j (by omega) (by omega))) hm1 ⟨hn.1, hn.2.1⟩ o89 a91 (by rw [jot 67 (by decide) (by decide)]; exact i67) (by omega) rfl) nX10_byE (Nat.le_of_ble_eq_true rfl) (Nat.le_of_ble_eq_true rfl) (Nat.le_of_ble_eq_true rfl) (Nat.le_of_ble_eq_true rfl) (fun h4 q4 => ?_)
  obtain ⟨fz, hvz, w4⟩ := q4
  have k89 : (up I3 90 fz) 89 = fy := by rw [up_ne (by decide)]; exact j89
  have k88 : (up I3 90 fz) 88 = fr := by rw [up_ne (by decide)]; exact j88
  have k90 : (up I3 90 fz) 90 = fz := up_same _ _ _
  have kot : ∀ j, j ≠ 88 → j ≠ 89 → j ≠ 90 → (up I3 90 fz) j = I j := fun j a1 a2 a3 => by rw [up_ne a3]; exact jot j a1 a2
  generalize up I3 90 fz = I4 at *
  have ir4 : ∀ j, relI j → I4 j = I j := fun j hj => by unfold relI at hj; exact kot j (by omega) (by omega) (by omega)
  have o90 : OpM A h4 (A 90) n (y ^ N (140 + k) % N (130 + k)) := by have := OpM.i w4 90 rfl hn.2.1 (by decide); rwa [k90, hvz] at this
  have o88' : OpM A h4 (A 88) n v := by have := OpM.i w4 88 rfl hn.2.1 (by decide); rwa [k88, hvr] at this
  have hmd4 := md w4
  refine X_aload_n (pc := 89) 1 dX10_signs_89 rfl rfl ?_
  refine X_getfield (pc := 90) dX10_signs_90 fg_X10_555_11 (MW.ob w4) mf_90 ?_
  refine X_aload_n (pc := 93) 1 dX10_signs_93 rfl rfl ?_
  refine X_getfield (pc := 94) dX10_signs_94 fg_X10_549_11 (MW.ob w4) mf_88 ?_
  refine X_aload_n (pc := 97) 0 dX10_signs_97 rfl rfl ?_
  refine X_getfield (pc := 98) dX10_signs_98 fg_X10_13_12 hmd4 (by first | rfl | assumption) ?_
  refine X_isi (pc := 101) _ dX10_signs_101 cs_X10_26 rfl (mcW g o90 o88') nX10_compare (Nat.le_of_ble_eq_true rfl) (Nat.le_of_ble_eq_true rfl) (Nat.le_of_ble_eq_true rfl) (Nat.le_of_ble_eq_true rfl) (fun r5 h5 q5 => ?_)
  obtain ⟨rfl, rfl⟩ := q5
  by_cases c2 : y ^ N (140 + k) % N (130 + k) = v
  rotate_left
  · refine X_if_eq (pc := 104) 110 dX10_signs_104 (by decide) (fun z => absurd (cmpN_eq0.mp z) c2) (fun _ => ?_)
    refine X_bipush (pc := 107) (x := (-4)) dX10_signs_107 (by decide) ?_
    refine X_ireturn (pc := 109) dX10_signs_109 rfl (Nat.le_of_ble_eq_true rfl) (Nat.le_of_ble_eq_true rfl) ?_
    exact no I4 _ w4 ir4 (fun z => c2 z.2)
  refine X_if_eq (pc := 104) 110 dX10_signs_104 (by decide) (fun _ => ?_) (fun z => absurd (cmpN_eq0.mpr c2) z)
  have c89' : h5 (A 89) = some (Ai false 0 64 fy) := by have := w4.i 89 rfl; rwa [k89] at this
  obtain ⟨f83, c83, -, -⟩ := w4.s 83 rfl
  have k68 : I4 68 = I 68 := kot 68 (by decide) (by decide) (by decide)
  refine X_aload_n (pc := 110) 1 dX10_signs_110 rfl rfl ?_
  refine X_getfield (pc := 111) dX10_signs_111 fg_X10_552_11 (MW.ob w4) mf_89 ?_
  refine X_aload_n (pc := 114) 1 dX10_signs_114 rfl rfl ?_
  refine X_getfield (pc := 115) dX10_signs_115 fg_X10_537_11 (MW.ob w4) mf_83 ?_
  refine X_iconst (pc := 118) (x := 0) dX10_signs_118 (by decide) ?_
  refine X_aload_n (pc := 119) 1 dX10_signs_119 rfl rfl ?_
  refine X_getfield (pc := 120) dX10_signs_120 fg_X10_510_11 (MW.ob w4) mf_68 ?_
  refine X_iload_n (pc := 123) 2 dX10_signs_123 rfl rfl ?_
  refine X_iaload (pc := 124) dX10_signs_124 (w4.i 68 rfl) bk ?_
  rw [ck, k68, i68]
  refine X_isv (pc := 125) _ dX10_signs_125 cs_X10_232 rfl (store_ok g (n := n) (fr := 0) (many := N (150 + k)) c89' c83 hn.2.1 (by decide) (by omega) (by decide) hn.2.2) nX10_store (Nat.le_of_ble_eq_true rfl) (Nat.le_of_ble_eq_true rfl) (Nat.le_of_ble_eq_true rfl) (Nat.le_of_ble_eq_true rfl) (fun h6 q6 => ?_)
  subst q6
  rw [hvy]
  have w6 := w4.stoS 83 rfl y (N (150 + k)) (by omega) (f := f83)
  generalize hset h5 (A 83) _ = h6 at *
  refine X_aload_n (pc := 128) 1 dX10_signs_128 rfl rfl ?_
  refine X_aload_n (pc := 129) 1 dX10_signs_129 rfl rfl ?_
  refine X_getfield (pc := 130) dX10_signs_130 fg_X10_510_11 (MW.ob w6) mf_68 ?_
  refine X_iload_n (pc := 133) 2 dX10_signs_133 rfl rfl ?_
  refine X_iaload (pc := 134) dX10_signs_134 (w6.i 68 rfl) bk ?_
  rw [ck, k68, i68]
  refine X_putfield (pc := 135) dX10_signs_135 fp_X10_606_11 (fun e => by cases e) (MW.ob w6) rfl rfl (Nat.le_of_ble_eq_true rfl) ?_
  have w7 := w6.setF84 (v := nI (N (150 + k)))
  refine X_aload_n (pc := 138) 1 dX10_signs_138 rfl rfl ?_
  refine X_getfield (pc := 139) dX10_signs_139 fg_X10_606_11 (MW.ob w7) mf_84 ?_
  rw [up_same]
  refine X_ireturn (pc := 142) dX10_signs_142 rfl (Nat.le_of_ble_eq_true rfl) (Nat.le_of_ble_eq_true rfl) ?_
  subst hPost
  rw [hsd, if_pos ⟨c1, c2⟩]
  refine ⟨_, rfl, rfl, MRep.of w7 ?_⟩
  have m2 := (msi I4 ir4).out ⟨wf.1, wf.2.1⟩ (byN y (N (150 + k)))
  rw [byN_len, up_comm _ _ _ (show 81 ≠ 83 by decide)] at m2
  exact m2
end MIs
