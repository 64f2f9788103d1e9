set_option maxRecDepth 100000
/-! the reference: finalize, finalizeMany -/
section MFl
variable {A : Nat → Nat} {X : AH} {R R' : Nat → Nat} {I I' : Nat → Nat → Int32} {S S' : Nat → List Int32} {F F' : Nat → Int32} {h : AH} {N : Nat → Nat} {L : Nat → List Int32}
set_option maxHeartbeats 4000000 in
theorem finalizec_ok (g : GX) (wf : Wf N L) (m : MRep N L A X h) (x : Int32) : MT g MX10_finalize ({ frames := 12, cells := 0, slots := 0, locals := 263 } : Room) [.ref (A 96), .int x] h (RI (MQ3 A X (sFinal N L x))) := by
  obtain ⟨R, I, S, F, w, ms⟩ := m
  refine MT.of (by decide) (Nat.le_of_ble_eq_true rfl) ?_
  have ms1 := ms.use wf
  have hl0 : (L 0).length ≤ 1200 := wf.2.2.2.2.2.2.2.1
  have s81 : S 81 = L 0 := ms.2.1
  have f82 : F 82 = nI (L 0).length := ms.2.2.1
  have esq : sFinal N L x = cIf (0 ≤ x ∧ isAsk N x.toNatClampNeg) (if N (100 + N (200 + x.toNatClampNeg)) = 1 then sEnds (up N 6 0) (up L 0 []) (L 0) x.toNatClampNeg 1 else sEnds2 (up N 6 0) (up L 0 []) (L 0) x.toNatClampNeg) (0, up N 6 1, up L 0 []) := rfl
  refine X_aload_n (pc := 0) 0 dX10_finalize_0 rfl rfl ?_
  refine X_ivi (pc := 1) _ dX10_finalize_1 cv_X10_612_11 (MW.ob w) rfl (used_ok g w) nX10_used (Nat.le_of_ble_eq_true rfl) (Nat.le_of_ble_eq_true rfl) (Nat.le_of_ble_eq_true rfl) (Nat.le_of_ble_eq_true rfl) (fun r1 h1 q1 => ?_)
  obtain ⟨rfl, w1⟩ := q1
  rw [f82]
  have wf1' := wf.use
  have hia : ∀ j, isAsk (up N 6 0) j ↔ isAsk N j := fun j => by unfold isAsk; rw [up_ne (by decide), up_ne (by omega)]
  have hn1 : ∀ j, (up N 6 0) (100 + j) = N (100 + j) := fun j => up_ne (by omega)
  have hn2 : ∀ j, (up N 6 0) (200 + j) = N (200 + j) := fun j => up_ne (by omega)
  have ht6 : up (up N 6 0) 6 1 = up N 6 1 := by rw [up_up']
  generalize hF1 : up (up F 0 0) 82 0 = F1 at *
  generalize hT : L 0 = T at *
  generalize hN1 : up N 6 0 = N1 at *
  generalize hL1 : up L 0 [] = L1 at *
  have h75 := ms1.f75
  have hop : ∀ a, a < N1 1 → I 72 a = nI (N1 (300 + a)) := fun a ha => (ms1.aa ha).2.1
  generalize hPost : RI (MQ3 A X (sFinal N L x)) = Post
  refine X_istore_n (pc := 4) (L' := [(2, .int _), (0, .ref _), (1, .int _)]) dX10_finalize_4 rfl (Nat.le_of_ble_eq_true rfl) rfl ?_
  refine X_aload_n (pc := 5) 1 dX10_finalize_5 rfl rfl ?_
  refine X_iload_n (pc := 6) 2 dX10_finalize_6 rfl rfl ?_
  refine X_ivi (pc := 7) _ dX10_finalize_7 cv_X10_678_11 (MW.ob w1) rfl (isAsking_ok g wf1' w1 h75 hop x) nX10_isAsking (Nat.le_of_ble_eq_true rfl) (Nat.le_of_ble_eq_true rfl) (Nat.le_of_ble_eq_true rfl) (Nat.le_of_ble_eq_true rfl) (fun r2 h2 q2 => ?_)
  obtain ⟨rfl, hq⟩ := q2
  rcases hq with ⟨rfl, a, rfl, hq⟩ | ⟨rfl, hq⟩
  rotate_left
  · refine X_if_ne (pc := 10) 20 dX10_finalize_10 (by decide) (fun z => absurd rfl z) (fun _ => ?_)
    refine X_aload_n (pc := 13) 1 dX10_finalize_13 rfl rfl ?_
    refine X_iconst (pc := 14) (x := 1) dX10_finalize_14 (by decide) ?_
    refine X_putfield (pc := 15) dX10_finalize_15 fp_X10_1_11 (fun e => by cases e) (MW.ob w1) rfl rfl (Nat.le_of_ble_eq_true rfl) ?_
    have w2 := w1.setF0 (v := 1)
    refine X_iconst (pc := 18) (x := 0) dX10_finalize_18 (by decide) ?_
    refine X_ireturn (pc := 19) dX10_finalize_19 rfl (Nat.le_of_ble_eq_true rfl) (Nat.le_of_ble_eq_true rfl) ?_
    subst hPost
    rw [esq, cIf_f (fun z => hq ⟨z.1, (hia _).mpr z.2⟩), ← ht6]
    exact ⟨_, rfl, rfl, MRep.of w2 (ms1.thr ⟨wf1'.1, wf1'.2.1⟩ 1)⟩
  refine X_if_ne (pc := 10) 20 dX10_finalize_10 (by decide) (fun _ => ?_) (fun z => absurd z (by decide))
  have ha := hq.1
  have ha60 : a < 60 := Nat.lt_of_lt_of_le ha wf1'.2.1
  have ba : vp_in (nI a) 60 := vp_in_nI ha60 (by decide)
  have ca : (nI a).toNatClampNeg = a := nI_clamp (by omega)
  have a0 : (0 : Int32) ≤ nI a := nI_pos' (by omega)
  rw [ca, cIf_t ⟨a0, (hia a).mp hq⟩, ← hn2, ← hn1] at esq
  have hk := wf1'.ka a ha
  have am := ms1.aa ha
  generalize hka : N1 (200 + a) = k at *
  have hk6 : k < 6 := Nat.lt_of_lt_of_le hk wf1'.1
  have bk : vp_in (nI k) 6 := vp_in_nI hk6 (by decide)
  have ck : (nI k).toNatClampNeg = k := nI_clamp (by omega)
  have km := ms1.kk hk
  have ko := wf1'.kk hk
  have i71 : I 71 a = nI k := by have := am.1; rwa [hka] at this
  refine X_aload_n (pc := 20) 1 dX10_finalize_20 rfl rfl ?_
  refine X_getfield (pc := 21) dX10_finalize_21 fg_X10_516_11 (MW.ob w1) mf_71 ?_
  refine X_iload_n (pc := 24) 2 dX10_finalize_24 rfl rfl ?_
  refine X_iaload (pc := 25) dX10_finalize_25 (w1.i 71 rfl) ba ?_
  refine X_istore_n (pc := 26) (L' := [(3, .int _), (2, .int _), (0, .ref _), (1, .int _)]) dX10_finalize_26 rfl (Nat.le_of_ble_eq_true rfl) rfl ?_
  refine X_aload_n (pc := 27) 2 dX10_finalize_27 rfl rfl ?_
  refine X_getfield (pc := 28) dX10_finalize_28 fg_X10_492_11 (MW.ob w1) mf_61 ?_
  refine X_iload_n (pc := 31) 0 dX10_finalize_31 rfl rfl ?_
  refine X_iaload (pc := 32) dX10_finalize_32 (w1.i 61 rfl) (show vp_in (I 71 (nI a).toNatClampNeg) 6 by rw [ca, i71]; exact bk) ?_
  refine X_iconst (pc := 33) (x := 1) dX10_finalize_33 (by decide) ?_
  rw [ca, i71, ck, km.1]
  by_cases t1 : N1 (100 + k) = 1
  · rw [t1]
    refine X_icmp_ne (pc := 34) 45 dX10_finalize_34 (by decide) (fun z => absurd rfl z) (fun _ => ?_)
    have hask1 : ∀ i, i < 1 → a + i < N1 1 := fun i hi => by rw [show i = 0 by omega]; exact ha
    have hsam1 : ∀ i, i < 1 → N1 (200 + (a + i)) = k := fun i hi => by rw [show i = 0 by omega]; exact hka
    refine X_aload_n (pc := 37) 2 dX10_finalize_37 rfl rfl ?_
    refine X_iload_n (pc := 38) 3 dX10_finalize_38 rfl rfl ?_
    refine X_iconst (pc := 39) (x := 1) dX10_finalize_39 (by decide) ?_
    refine X_iload_n (pc := 40) 1 dX10_finalize_40 rfl rfl ?_
    refine X_ivi (pc := 41) _ dX10_finalize_41 cv_X10_681_11 (MW.ob w1) rfl (ends_cok g wf1' w1 ms1 (a := a) (k := k) (many := 1) s81 hl0 (by decide) (by decide) hask1 hsam1 t1) nX10_ends (Nat.le_of_ble_eq_true rfl) (Nat.le_of_ble_eq_true rfl) (Nat.le_of_ble_eq_true rfl) (Nat.le_of_ble_eq_true rfl) (fun r3 h3 q3 => ?_)
    refine X_ireturn (pc := 44) dX10_finalize_44 rfl (Nat.le_of_ble_eq_true rfl) (Nat.le_of_ble_eq_true rfl) ?_
    subst hPost
    rw [esq, if_pos t1]
    exact ⟨_, rfl, q3⟩
  · obtain ⟨t2, l1, l2, -⟩ := ko.two t1
    refine X_icmp_ne (pc := 34) 45 dX10_finalize_34 (by decide) (fun _ => ?_) (fun z => absurd z (by rw [t2]; decide))
    have i68 : I 68 k = nI (N1 (150 + k)) := km.2.2.2.1
    rw [if_neg t1] at esq
    have esd : sEnds2 N1 L1 T a = if T.length ≠ N1 (150 + N1 (200 + a)) then (-2, N1, L1) else _ := rfl
    rw [hka] at esd
    refine X_iload_n (pc := 45) 1 dX10_finalize_45 rfl rfl ?_
    refine X_aload_n (pc := 46) 2 dX10_finalize_46 rfl rfl ?_
    refine X_getfield (pc := 47) dX10_finalize_47 fg_X10_510_11 (MW.ob w1) mf_68 ?_
    refine X_iload_n (pc := 50) 0 dX10_finalize_50 rfl rfl ?_
    refine X_iaload (pc := 51) dX10_finalize_51 (w1.i 68 rfl) bk ?_
    rw [ck, i68]
    by_cases c5 : T.length = N1 (150 + k)
    · refine X_icmp_eq (pc := 52) 58 dX10_finalize_52 (by decide) (fun _ => ?_) (fun z => absurd (by rw [c5]) z)
      refine X_aload_n (pc := 58) 2 dX10_finalize_58 rfl rfl ?_
      refine X_iload_n (pc := 59) 3 dX10_finalize_59 rfl rfl ?_
      refine X_iload_n (pc := 60) 0 dX10_finalize_60 rfl rfl ?_
      refine X_ivi (pc := 61) _ dX10_finalize_61 cv_X10_685_11 (MW.ob w1) rfl (endsTwo_ok g wf1' w1 ms1 ha hka t1 s81 c5) nX10_endsTwo (Nat.le_of_ble_eq_true rfl) (Nat.le_of_ble_eq_true rfl) (Nat.le_of_ble_eq_true rfl) (Nat.le_of_ble_eq_true rfl) (fun r3 h3 q3 => ?_)
      refine X_ireturn (pc := 64) dX10_finalize_64 rfl (Nat.le_of_ble_eq_true rfl) (Nat.le_of_ble_eq_true rfl) ?_
      subst hPost
      rw [esq]
      exact ⟨_, rfl, q3⟩
    · refine X_icmp_eq (pc := 52) 58 dX10_finalize_52 (by decide) (fun z => absurd (nI_inj' (by omega) (by omega) z) c5) (fun _ => ?_)
      refine X_bipush (pc := 55) (x := (-2)) dX10_finalize_55 (by decide) ?_
      refine X_ireturn (pc := 57) dX10_finalize_57 rfl (Nat.le_of_ble_eq_true rfl) (Nat.le_of_ble_eq_true rfl) ?_
      subst hPost
      rw [esq, esd, if_pos c5]
      exact ⟨_, rfl, rfl, MRep.of w1 ms1⟩
set_option maxHeartbeats 8000000 in
theorem finalizeManyc_ok (g : GX) (wf : Wf N L) (m : MRep N L A X h) (x mn : Int32) : MT g MX10_finalizeMany ({ frames := 12, cells := 0, slots := 0, locals := 263 } : Room) [.ref (A 96), .int x, .int mn] h (RI (MQ3 A X (sFinalMany N L x mn))) := by
  obtain ⟨R, I, S, F, w, ms⟩ := m
  refine MT.of (by decide) (Nat.le_of_ble_eq_true rfl) ?_
  have ms1 := ms.use wf
  have hl0 : (L 0).length ≤ 1200 := wf.2.2.2.2.2.2.2.1
  have s81 : S 81 = L 0 := ms.2.1
  have f82 : F 82 = nI (L 0).length := ms.2.2.1
  have esq : sFinalMany N L x mn = cIf (1 ≤ mn ∧ mn ≤ 8 ∧ 0 ≤ x ∧ x < 60 ∧ ∀ i, i < mn.toNatClampNeg → isAsk N (x.toNatClampNeg + i))
    (cIf ((∀ i, i < mn.toNatClampNeg → N (200 + (x.toNatClampNeg + i)) = N (200 + x.toNatClampNeg)) ∧ N (100 + N (200 + x.toNatClampNeg)) = 1) (sEnds (up N 6 0) (up L 0 []) (L 0) x.toNatClampNeg mn.toNatClampNeg) (-2, up N 6 0, up L 0 []))
    (0, up N 6 1, up L 0 []) := rfl
  refine X_aload_n (pc := 0) 0 dX10_finalizeMany_0 rfl rfl ?_
  refine X_ivi (pc := 1) _ dX10_finalizeMany_1 cv_X10_612_11 (MW.ob w) rfl (used_ok g w) nX10_used (Nat.le_of_ble_eq_true rfl) (Nat.le_of_ble_eq_true rfl) (Nat.le_of_ble_eq_true rfl) (Nat.le_of_ble_eq_true rfl) (fun r1 h1 q1 => ?_)
  obtain ⟨rfl, w1⟩ := q1
  rw [f82]
  have wf1' := wf.use
  have hia : ∀ j, isAsk (up N 6 0) j ↔ isAsk N j := fun j => by unfold isAsk; rw [up_ne (by decide), up_ne (by omega)]
  have hn1 : ∀ j, (up N 6 0) (100 + j) = N (100 + j) := fun j => up_ne (by omega)
  have hn2 : ∀ j, (up N 6 0) (200 + j) = N (200 + j) := fun j => up_ne (by omega)
  have ht6 : up (up N 6 0) 6 1 = up N 6 1 := by rw [up_up']
  generalize hF1 : up (up F 0 0) 82 0 = F1 at *
  generalize hT : L 0 = T at *
  generalize hN1 : up N 6 0 = N1 at *
  generalize hL1 : up L 0 [] = L1 at *
  have h75 := ms1.f75
  have h60 := wf1'.2.1
  have hop : ∀ a, a < N1 1 → I 72 a = nI (N1 (300 + a)) := fun a ha => (ms1.aa ha).2.1
  generalize hPost : RI (MQ3 A X (sFinalMany N L x mn)) = Post
  have bad : ∀ v5, ¬ (1 ≤ mn ∧ mn ≤ 8 ∧ 0 ≤ x ∧ x < 60 ∧ ∀ i, i < mn.toNatClampNeg → isAsk N (x.toNatClampNeg + i)) → XX g MX10_finalizeMany ({ frames := 12, cells := 0, slots := 0, locals := 263 } : Room) Post 0 0 26 [(5, .int v5), (4, .int 0), (3, .int (nI T.length)), (0, .ref (A 96)), (1, .int x), (2, .int mn)] [] h1 := by
    intro v5 hc
    refine X_iload (pc := 26) 1 dX10_finalizeMany_26 rfl ?_
    refine X_if_eq (pc := 28) 71 dX10_finalizeMany_28 (by decide) (fun _ => ?_) (fun z => absurd rfl z)
    refine X_iload (pc := 71) 1 dX10_finalizeMany_71 rfl ?_
    refine X_if_ne (pc := 73) 83 dX10_finalizeMany_73 (by decide) (fun z => absurd rfl z) (fun _ => ?_)
    refine X_aload_n (pc := 76) 3 dX10_finalizeMany_76 rfl rfl ?_
    refine X_iconst (pc := 77) (x := 1) dX10_finalizeMany_77 (by decide) ?_
    refine X_putfield (pc := 78) dX10_finalizeMany_78 fp_X10_1_11 (fun e => by cases e) (MW.ob w1) rfl rfl (Nat.le_of_ble_eq_true rfl) ?_
    have w2 := w1.setF0 (v := 1)
    refine X_iconst (pc := 81) (x := 0) dX10_finalizeMany_81 (by decide) ?_
    refine X_ireturn (pc := 82) dX10_finalizeMany_82 rfl (Nat.le_of_ble_eq_true rfl) (Nat.le_of_ble_eq_true rfl) ?_
    subst hPost
    rw [esq, cIf_f hc, ← ht6]
    exact ⟨_, rfl, rfl, MRep.of w2 (ms1.thr ⟨wf1'.1, wf1'.2.1⟩ 1)⟩
  have bad0 : ¬ (1 ≤ mn ∧ mn ≤ 8) → XX g MX10_finalizeMany ({ frames := 12, cells := 0, slots := 0, locals := 263 } : Room) Post 0 0 20 [(3, .int (nI T.length)), (0, .ref (A 96)), (1, .int x), (2, .int mn)] [] h1 := by
    intro hc
    refine X_iconst (pc := 20) (x := 0) dX10_finalizeMany_20 (by decide) ?_
    refine X_istore (pc := 21) (L' := [(4, .int _), (3, .int _), (0, .ref _), (1, .int _), (2, .int _)]) dX10_finalizeMany_21 (Nat.le_of_ble_eq_true rfl) rfl ?_
    refine X_iconst (pc := 23) (x := 0) dX10_finalizeMany_23 (by decide) ?_
    refine X_istore (pc := 24) (L' := [(5, .int _), (4, .int _), (3, .int _), (0, .ref _), (1, .int _), (2, .int _)]) dX10_finalizeMany_24 (Nat.le_of_ble_eq_true rfl) rfl ?_
    exact bad _ (fun z => hc ⟨z.1, z.2.1⟩)
  have bad1 : ∀ v5, ¬ (1 ≤ mn ∧ mn ≤ 8 ∧ 0 ≤ x ∧ x < 60 ∧ ∀ i, i < mn.toNatClampNeg → isAsk N (x.toNatClampNeg + i)) → XX g MX10_finalizeMany ({ frames := 12, cells := 0, slots := 0, locals := 263 } : Room) Post 0 0 62 [(5, .int v5), (4, .int 1), (3, .int (nI T.length)), (0, .ref (A 96)), (1, .int x), (2, .int mn)] [] h1 := by
    intro v5 hc
    refine X_iconst (pc := 62) (x := 0) dX10_finalizeMany_62 (by decide) ?_
    refine X_istore (pc := 63) (L' := [(4, .int _), (5, .int _), (3, .int _), (0, .ref _), (1, .int _), (2, .int _)]) dX10_finalizeMany_63 (Nat.le_of_ble_eq_true rfl) rfl ?_
    refine X_iinc (pc := 65) (L' := [(5, .int (_ + 1)), (4, .int _), (3, .int _), (0, .ref _), (1, .int _), (2, .int _)]) 1 dX10_finalizeMany_65 rfl rfl (Nat.le_of_ble_eq_true rfl) rfl ?_
    refine X_goto (pc := 68) 26 dX10_finalizeMany_68 (by decide) ?_
    exact bad _ hc
  refine X_istore_n (pc := 4) (L' := [(3, .int _), (0, .ref _), (1, .int _), (2, .int _)]) dX10_finalizeMany_4 rfl (Nat.le_of_ble_eq_true rfl) rfl ?_
  refine X_iload_n (pc := 5) 3 dX10_finalizeMany_5 rfl rfl ?_
  refine X_iconst (pc := 6) (x := 1) dX10_finalizeMany_6 (by decide) ?_
  by_cases a1 : mn < 1
  · exact X_icmp_lt (pc := 7) 20 dX10_finalizeMany_7 (by decide) (fun _ => bad0 (fun z => absurd a1 (Int32.not_lt.mpr z.1))) (fun z => absurd a1 z)
  refine X_icmp_lt (pc := 7) 20 dX10_finalizeMany_7 (by decide) (fun z => absurd z a1) (fun _ => ?_)
  refine X_iload_n (pc := 10) 3 dX10_finalizeMany_10 rfl rfl ?_
  refine X_bipush (pc := 11) (x := 8) dX10_finalizeMany_11 (by decide) ?_
  by_cases a2 : 8 < mn
  · exact X_icmp_gt (pc := 13) 20 dX10_finalizeMany_13 (by decide) (fun _ => bad0 (fun z => absurd a2 (Int32.not_lt.mpr z.2))) (fun z => absurd a2 z)
  refine X_icmp_gt (pc := 13) 20 dX10_finalizeMany_13 (by decide) (fun z => absurd z a2) (fun _ => ?_)
  have a1' : 1 ≤ mn := Int32.not_lt.mp a1
  have a2' : mn ≤ 8 := Int32.not_lt.mp a2
  obtain ⟨many, hm0, hm8, rfl⟩ : ∃ j, 1 ≤ j ∧ j ≤ 8 ∧ mn = nI j := by
    rcases pk_ix mn (show 9 < 2 ^ 31 by decide) with z | z | ⟨j, hj, rfl⟩
    · exact absurd (Int32.lt_trans z (by decide)) a1
    · exact absurd (Int32.lt_of_lt_of_le (by decide) z) a2
    · refine ⟨j, ?_, by omega, rfl⟩
      apply Nat.le_of_not_lt
      intro z
      have : j = 0 := by omega
      subst this
      exact a1 (by decide)
  have cmn : (nI many).toNatClampNeg = many := nI_clamp (by omega)
  rw [cmn] at esq bad bad1
  have fin : ∀ v5 a, x = nI a → a < 60 → (∀ j, j < many → isAsk N1 (a + j)) → XX g MX10_finalizeMany ({ frames := 12, cells := 0, slots := 0, locals := 263 } : Room) Post 0 0 83 [(5, .int v5), (4, .int 1), (3, .int (nI T.length)), (0, .ref (A 96)), (1, .int x), (2, .int (nI many))] [] h1 := by
    intro v5 a hx ha60 hall
    subst hx
    have ba : vp_in (nI a) 60 := vp_in_nI ha60 (by decide)
    have ca : (nI a).toNatClampNeg = a := nI_clamp (by omega)
    rw [ca, cIf_t ⟨a1', a2', nI_pos' (by omega), nI_lt (b := 60) ha60 (by decide), fun i hi => (hia _).mp (hall i hi)⟩] at esq
    have ha : a < N1 1 := (hall 0 (by omega)).1
    have hk := wf1'.ka a ha
    have am := ms1.aa ha
    have hn2' : ∀ j, N (200 + j) = N1 (200 + j) := fun j => (hn2 j).symm
    have hn1' : ∀ j, N (100 + j) = N1 (100 + j) := fun j => (hn1 j).symm
    have esq : sFinalMany N L (nI a) (nI many) = cIf ((∀ i, i < many → N1 (200 + (a + i)) = N1 (200 + a)) ∧ N1 (100 + N1 (200 + a)) = 1) (sEnds N1 L1 T a many) (-2, N1, L1) := by
      rw [esq]
      simp only [hn2', hn1']
    generalize hka : N1 (200 + a) = k at *
    have hk6 : k < 6 := Nat.lt_of_lt_of_le hk wf1'.1
    have bk : vp_in (nI k) 6 := vp_in_nI hk6 (by decide)
    have ck : (nI k).toNatClampNeg = k := nI_clamp (by omega)
    have km := ms1.kk hk
    have ko := wf1'.kk hk
    have i71 : I 71 a = nI k := by have := am.1; rwa [hka] at this
    have no : ∀ h', h' = h1 → ¬ ((∀ i, i < many → N1 (200 + (a + i)) = k) ∧ N1 (100 + k) = 1) → Post (.returned (some (.int (-2)))) h' := by
      intro h' e hc
      subst e hPost
      rw [esq, cIf_f hc]
      exact ⟨_, rfl, rfl, MRep.of w1 ms1⟩
    have loop : ∀ m i, i + m = many → (∀ j, j < i → N1 (200 + (a + j)) = k) → XX g MX10_finalizeMany ({ frames := 12, cells := 0, slots := 0, locals := 263 } : Room) Post 0 0 86 [(5, .int (nI i)), (4, .int 1), (3, .int (nI T.length)), (0, .ref (A 96)), (1, .int (nI a)), (2, .int (nI many))] [] h1 := by
      intro m
      induction m with
      | zero =>
        intro i hi hal
        have ei : i = many := by omega
        subst ei
        refine X_iload (pc := 86) 0 dX10_finalizeMany_86 rfl ?_
        refine X_iload_n (pc := 88) 5 dX10_finalizeMany_88 rfl rfl ?_
        refine X_cge (pc := 89) 119 dX10_finalizeMany_89 (by decide) (by omega) (by omega) (fun _ => ?_) (fun z => absurd z (by omega))
        refine X_aload_n (pc := 119) 3 dX10_finalizeMany_119 rfl rfl ?_
        refine X_getfield (pc := 120) dX10_finalizeMany_120 fg_X10_492_11 (MW.ob w1) mf_61 ?_
        refine X_aload_n (pc := 123) 3 dX10_finalizeMany_123 rfl rfl ?_
        refine X_getfield (pc := 124) dX10_finalizeMany_124 fg_X10_516_11 (MW.ob w1) mf_71 ?_
        refine X_iload_n (pc := 127) 4 dX10_finalizeMany_127 rfl rfl ?_
        refine X_iaload (pc := 128) dX10_finalizeMany_128 (w1.i 71 rfl) ba ?_
        refine X_iaload (pc := 129) dX10_finalizeMany_129 (w1.i 61 rfl) (show vp_in (I 71 (nI a).toNatClampNeg) 6 by rw [ca, i71]; exact bk) ?_
        refine X_iconst (pc := 130) (x := 1) dX10_finalizeMany_130 (by decide) ?_
        rw [ca, i71, ck, km.1]
        by_cases t1 : N1 (100 + k) = 1
        · rw [t1]
          refine X_icmp_eq (pc := 131) 137 dX10_finalizeMany_131 (by decide) (fun _ => ?_) (fun z => absurd rfl z)
          refine X_aload_n (pc := 137) 3 dX10_finalizeMany_137 rfl rfl ?_
          refine X_iload_n (pc := 138) 4 dX10_finalizeMany_138 rfl rfl ?_
          refine X_iload_n (pc := 139) 5 dX10_finalizeMany_139 rfl rfl ?_
          refine X_iload_n (pc := 140) 2 dX10_finalizeMany_140 rfl rfl ?_
          refine X_ivi (pc := 141) _ dX10_finalizeMany_141 cv_X10_681_11 (MW.ob w1) rfl (ends_cok g wf1' w1 ms1 (a := a) (k := k) (many := i) s81 hl0 hm0 hm8 (fun j hj => (hall j hj).1) hal t1) nX10_ends (Nat.le_of_ble_eq_true rfl) (Nat.le_of_ble_eq_true rfl) (Nat.le_of_ble_eq_true rfl) (Nat.le_of_ble_eq_true rfl) (fun r3 h3 q3 => ?_)
          refine X_ireturn (pc := 144) dX10_finalizeMany_144 rfl (Nat.le_of_ble_eq_true rfl) (Nat.le_of_ble_eq_true rfl) ?_
          subst hPost
          rw [esq, cIf_t ⟨hal, t1⟩]
          exact ⟨_, rfl, q3⟩
        · have t2 := (ko.two t1).1
          refine X_icmp_eq (pc := 131) 137 dX10_finalizeMany_131 (by decide) (fun z => absurd z (by rw [t2]; decide)) (fun _ => ?_)
          refine X_bipush (pc := 134) (x := (-2)) dX10_finalizeMany_134 (by decide) ?_
          refine X_ireturn (pc := 136) dX10_finalizeMany_136 rfl (Nat.le_of_ble_eq_true rfl) (Nat.le_of_ble_eq_true rfl) ?_
          exact no _ rfl (fun z => t1 z.2)
      | succ m ih =>
        intro i hi hal
        have hai := (hall i (by omega)).1
        have bi : vp_in (nI (a + i)) 60 := vp_in_nI (by omega) (by decide)
        have ci : (nI (a + i)).toNatClampNeg = a + i := nI_clamp (by omega)
        have hki := wf1'.ka _ hai
        have hk0 := wf1'.1
        have ami := (ms1.aa hai).1
        refine X_iload (pc := 86) 0 dX10_finalizeMany_86 rfl ?_
        refine X_iload_n (pc := 88) 5 dX10_finalizeMany_88 rfl rfl ?_
        refine X_cge (pc := 89) 119 dX10_finalizeMany_89 (by decide) (by omega) (by omega) (fun z => absurd z (by omega)) (fun _ => ?_)
        refine X_aload_n (pc := 92) 3 dX10_finalizeMany_92 rfl rfl ?_
        refine X_getfield (pc := 93) dX10_finalizeMany_93 fg_X10_516_11 (MW.ob w1) mf_71 ?_
        refine X_iload_n (pc := 96) 4 dX10_finalizeMany_96 rfl rfl ?_
        refine X_iload (pc := 97) 0 dX10_finalizeMany_97 rfl ?_
        refine X_iadd (pc := 99) dX10_finalizeMany_99 ?_
        rw [nI_add]
        refine X_iaload (pc := 100) dX10_finalizeMany_100 (w1.i 71 rfl) bi ?_
        refine X_aload_n (pc := 101) 3 dX10_finalizeMany_101 rfl rfl ?_
        refine X_getfield (pc := 102) dX10_finalizeMany_102 fg_X10_516_11 (MW.ob w1) mf_71 ?_
        refine X_iload_n (pc := 105) 4 dX10_finalizeMany_105 rfl rfl ?_
        refine X_iaload (pc := 106) dX10_finalizeMany_106 (w1.i 71 rfl) ba ?_
        rw [ca, ci, i71, ami]
        by_cases e : N1 (200 + (a + i)) = k
        · refine X_icmp_eq (pc := 107) 113 dX10_finalizeMany_107 (by decide) (fun _ => ?_) (fun z => absurd (by rw [e]) z)
          refine X_iinc (pc := 113) (L' := [(5, .int (_ + 1)), (4, .int _), (3, .int _), (0, .ref _), (1, .int _), (2, .int _)]) 0 dX10_finalizeMany_113 rfl rfl (Nat.le_of_ble_eq_true rfl) rfl ?_
          refine X_goto (pc := 116) 86 dX10_finalizeMany_116 (by decide) ?_
          rw [show nI i + 1 = nI (i + 1) from nI_add i 1]
          refine ih (i + 1) (by omega) (fun j hj => ?_)
          by_cases ej : j = i
          · subst ej; exact e
          · exact hal j (by omega)
        · refine X_icmp_eq (pc := 107) 113 dX10_finalizeMany_107 (by decide) (fun z => absurd (nI_inj' (by omega) (by omega) z) e) (fun _ => ?_)
          refine X_bipush (pc := 110) (x := (-2)) dX10_finalizeMany_110 (by decide) ?_
          refine X_ireturn (pc := 112) dX10_finalizeMany_112 rfl (Nat.le_of_ble_eq_true rfl) (Nat.le_of_ble_eq_true rfl) ?_
          exact no _ rfl (fun z => e (z.1 i (by omega)))
    refine X_iconst (pc := 83) (x := 0) dX10_finalizeMany_83 (by decide) ?_
    refine X_istore (pc := 84) (L' := [(5, .int _), (4, .int _), (3, .int _), (0, .ref _), (1, .int _), (2, .int _)]) dX10_finalizeMany_84 (Nat.le_of_ble_eq_true rfl) rfl ?_
    exact loop many 0 (by omega) (fun j hj => by omega)
  have loop : ∀ m i, i + m = many → (0 < i → ∃ a, x = nI a ∧ a < 60 ∧ ∀ j, j < i → isAsk N1 (a + j)) → XX g MX10_finalizeMany ({ frames := 12, cells := 0, slots := 0, locals := 263 } : Room) Post 0 0 26 [(5, .int (nI i)), (4, .int 1), (3, .int (nI T.length)), (0, .ref (A 96)), (1, .int x), (2, .int (nI many))] [] h1 := by
    intro m
    induction m with
    | zero =>
      intro i hi hal
      have ei : i = many := by omega
      subst ei
      obtain ⟨a, hx, ha, hall⟩ := hal (by omega)
      refine X_iload (pc := 26) 1 dX10_finalizeMany_26 rfl ?_
      refine X_if_eq (pc := 28) 71 dX10_finalizeMany_28 (by decide) (fun z => absurd z (by decide)) (fun _ => ?_)
      refine X_iload (pc := 31) 0 dX10_finalizeMany_31 rfl ?_
      refine X_iload_n (pc := 33) 5 dX10_finalizeMany_33 rfl rfl ?_
      refine X_cge (pc := 34) 71 dX10_finalizeMany_34 (by decide) (by omega) (by omega) (fun _ => ?_) (fun z => absurd z (by omega))
      refine X_iload (pc := 71) 1 dX10_finalizeMany_71 rfl ?_
      exact X_if_ne (pc := 73) 83 dX10_finalizeMany_73 (by decide) (fun _ => fin _ a hx ha hall) (fun z => absurd z (by decide))
    | succ m ih =>
      intro i hi hal
      refine X_iload (pc := 26) 1 dX10_finalizeMany_26 rfl ?_
      refine X_if_eq (pc := 28) 71 dX10_finalizeMany_28 (by decide) (fun z => absurd z (by decide)) (fun _ => ?_)
      refine X_iload (pc := 31) 0 dX10_finalizeMany_31 rfl ?_
      refine X_iload_n (pc := 33) 5 dX10_finalizeMany_33 rfl rfl ?_
      refine X_cge (pc := 34) 71 dX10_finalizeMany_34 (by decide) (by omega) (by omega) (fun z => absurd z (by omega)) (fun _ => ?_)
      refine X_iload_n (pc := 37) 4 dX10_finalizeMany_37 rfl rfl ?_
      by_cases c1 : x < 0
      · exact X_if_lt (pc := 38) 62 dX10_finalizeMany_38 (by decide) (fun _ => bad1 _ (fun z => absurd c1 (Int32.not_lt.mpr z.2.2.1))) (fun z => absurd c1 z)
      refine X_if_lt (pc := 38) 62 dX10_finalizeMany_38 (by decide) (fun z => absurd z c1) (fun _ => ?_)
      refine X_iload_n (pc := 41) 4 dX10_finalizeMany_41 rfl rfl ?_
      refine X_bipush (pc := 42) (x := 60) dX10_finalizeMany_42 (by decide) ?_
      rcases pk_ix x (show 60 < 2 ^ 31 by decide) with z | z | ⟨a, ha, rfl⟩
      · exact absurd z c1
      · exact X_icmp_ge (pc := 44) 62 dX10_finalizeMany_44 (by decide) (fun _ => bad1 _ (fun q => absurd q.2.2.2.1 (Int32.not_lt.mpr z))) (fun q => absurd z q)
      refine X_icmp_ge (pc := 44) 62 dX10_finalizeMany_44 (by decide) (fun z => absurd z (nI_ge (b := 60) ha (by decide))) (fun _ => ?_)
      have ca : (nI a).toNatClampNeg = a := nI_clamp (by omega)
      rw [ca] at bad1
      refine X_aload_n (pc := 47) 3 dX10_finalizeMany_47 rfl rfl ?_
      refine X_iload_n (pc := 48) 4 dX10_finalizeMany_48 rfl rfl ?_
      refine X_iload (pc := 49) 0 dX10_finalizeMany_49 rfl ?_
      refine X_iadd (pc := 51) dX10_finalizeMany_51 ?_
      rw [nI_add]
      refine X_ivi (pc := 52) _ dX10_finalizeMany_52 cv_X10_678_11 (MW.ob w1) rfl (isAsking_ok g wf1' w1 h75 hop (nI (a + i))) nX10_isAsking (Nat.le_of_ble_eq_true rfl) (Nat.le_of_ble_eq_true rfl) (Nat.le_of_ble_eq_true rfl) (Nat.le_of_ble_eq_true rfl) (fun r2 h2 q2 => ?_)
      obtain ⟨rfl, hq⟩ := q2
      rcases hq with ⟨rfl, b, hb, hq⟩ | ⟨rfl, hq⟩
      · refine X_if_eq (pc := 55) 62 dX10_finalizeMany_55 (by decide) (fun z => absurd z (by decide)) (fun _ => ?_)
        refine X_iconst (pc := 58) (x := 1) dX10_finalizeMany_58 (by decide) ?_
        refine X_goto (pc := 59) 63 dX10_finalizeMany_59 (by decide) ?_
        refine X_istore (pc := 63) (L' := [(4, .int _), (5, .int _), (3, .int _), (0, .ref _), (1, .int _), (2, .int _)]) dX10_finalizeMany_63 (Nat.le_of_ble_eq_true rfl) rfl ?_
        refine X_iinc (pc := 65) (L' := [(5, .int (_ + 1)), (4, .int _), (3, .int _), (0, .ref _), (1, .int _), (2, .int _)]) 1 dX10_finalizeMany_65 rfl rfl (Nat.le_of_ble_eq_true rfl) rfl ?_
        refine X_goto (pc := 68) 26 dX10_finalizeMany_68 (by decide) ?_
        rw [show nI i + 1 = nI (i + 1) from nI_add i 1]
        have hb1 := hq.1
        have hb2 : a + i = b := nI_inj' (by omega) (by omega) hb
        subst hb2
        refine ih (i + 1) (by omega) (fun _ => ⟨a, rfl, ha, fun j hj => ?_⟩)
        by_cases ej : j = i
        · subst ej; exact hq
        · obtain ⟨a', e, ha', hall⟩ := hal (by omega)
          have e' : a = a' := nI_inj' (by omega) (by omega) e
          subst e'
          exact hall j (by omega)
      · refine X_if_eq (pc := 55) 62 dX10_finalizeMany_55 (by decide) (fun _ => ?_) (fun z => absurd rfl z)
        refine bad1 _ (fun z => hq ?_)
        rw [nI_clamp (by omega)]
        exact ⟨nI_pos' (by omega), (hia _).mpr (z.2.2.2.2 i (by omega))⟩
  refine X_iconst (pc := 16) (x := 1) dX10_finalizeMany_16 (by decide) ?_
  refine X_goto (pc := 17) 21 dX10_finalizeMany_17 (by decide) ?_
  refine X_istore (pc := 21) (L' := [(4, .int _), (3, .int _), (0, .ref _), (1, .int _), (2, .int _)]) dX10_finalizeMany_21 (Nat.le_of_ble_eq_true rfl) rfl ?_
  refine X_iconst (pc := 23) (x := 0) dX10_finalizeMany_23 (by decide) ?_
  refine X_istore (pc := 24) (L' := [(5, .int _), (4, .int _), (3, .int _), (0, .ref _), (1, .int _), (2, .int _)]) dX10_finalizeMany_24 (Nat.le_of_ble_eq_true rfl) rfl ?_
  exact loop many 0 (by omega) (fun z => absurd z (by omega))
end MFl
