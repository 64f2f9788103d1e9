set_option maxRecDepth 100000
/-! the reference's calls: bytes -/
def relR (j : Nat) : Prop := j = 16 ∨ j = 44 ∨ j = 45 ∨ j = 200 ∨ j = 300 ∨ (225 ≤ j ∧ j < 231) ∨ (325 ≤ j ∧ j < 331)
def relI (j : Nat) : Prop := j = 61 ∨ j = 62 ∨ j = 67 ∨ j = 68 ∨ j = 69 ∨ j = 71 ∨ j = 72 ∨ (512 ≤ j ∧ j < 518) ∨ (522 ≤ j ∧ j < 528) ∨ (530 ≤ j ∧ j < 536) ∨ (600 ≤ j ∧ j < 660)
def relS (j : Nat) : Prop := j = 63 ∨ j = 73 ∨ j = 76 ∨ j = 81 ∨ j = 83
def relF (j : Nat) : Prop := j = 0 ∨ j = 26 ∨ j = 70 ∨ j = 75 ∨ j = 77 ∨ j = 78 ∨ j = 79 ∨ j = 80 ∨ j = 82 ∨ j = 84 ∨ j = 400 ∨ (425 ≤ j ∧ j < 431) ∨ (542 ≤ j ∧ j < 548) ∨ (552 ≤ j ∧ j < 558)
section MC1
variable {A : Nat → Nat} {X : AH} {R R' : Nat → Nat} {I I' : Nat → Nat → Int32} {S S' : Nat → List Int32} {F F' : Nat → Int32} {h : AH} {N : Nat → Nat} {L : Nat → List Int32}
theorem MB.cg (mb : MB R F) (hR : ∀ j, relR j → R' j = R j) (hF : ∀ j, relF j → F' j = F j) : MB R' F' := by
  obtain ⟨a, b, c, d, e, f, g⟩ := mb
  unfold relR at hR
  unfold relF at hF
  refine ⟨by rw [hR 16 (by omega)]; exact a, by rw [hR 44 (by omega)]; exact b, by rw [hR 45 (by omega)]; exact c, by rw [hR 45 (by omega)]; exact d, ?_, by rw [hF 400 (by omega)]; exact f, by rw [hF 26 (by omega)]; exact g⟩
  rw [← e]
  exact spt_cg (hR 200 (by omega)) (hR 300 (by omega)) (hF 400 (by omega))
theorem MoS.cg {k n mv : Nat} (hk : k < 6) (m : MoS I F (2 + k) n mv) (hI : ∀ j, relI j → I' j = I j) (hF : ∀ j, relF j → F' j = F j) : MoS I' F' (2 + k) n mv := by
  unfold relI at hI
  unfold relF at hF
  rcases m with ⟨z, -, -⟩ | ⟨z, -, -⟩ | ⟨z1, z2, s, z3, z4, z5, z6, z7, z8, z9, z10⟩
  · omega
  · omega
  · refine Or.inr (Or.inr ⟨z1, z2, s, z3, ?_, ?_, ?_, ?_, ?_, z9, z10⟩)
    · rw [hF _ (by omega)]; exact z4
    · rw [hF _ (by omega)]; exact z5
    · rw [hI (510 + (2 + k)) (by omega)]; exact z6
    · rw [hI (520 + (2 + k)) (by omega)]; exact z7
    · rw [hI (520 + (2 + k)) (by omega)]; exact z8
theorem KM.cg {k : Nat} (hk : k < 6) (m : KM N L R I S F k) (hR : ∀ j, relR j → R' j = R j) (hI : ∀ j, relI j → I' j = I j) (hS : S' 63 = S 63) (hF : ∀ j, relF j → F' j = F j) : KM N L R' I' S' F' k := by
  obtain ⟨a, b, c, d, e, f⟩ := m
  have iI := hI
  have iF := hF
  unfold relR at hR
  unfold relI at hI
  unfold relF at hF
  have es : spt R' F' (25 + k) = spt R F (25 + k) := spt_cg (hR _ (by omega)) (hR _ (by omega)) (hF _ (by omega))
  refine ⟨by rw [hI 61 (by omega)]; exact a, by rw [hI 62 (by omega)]; exact b, by rw [hS]; exact c, by rw [hI 68 (by omega)]; exact d, fun t => ?_, fun t => ?_⟩
  · obtain ⟨⟨p1, p2, p3⟩, q, r⟩ := e t
    exact ⟨⟨by rw [hF _ (by omega)]; exact p1, by rw [hR _ (by omega)]; exact p2, by rw [es]; exact p3⟩, by rw [es]; exact q, by rw [hI _ (by omega)]; exact r⟩
  · obtain ⟨sh, p1, p2, p3, p4, p5, p6, p7, p8⟩ := f t
    exact ⟨sh, p1, p2.cg hk iI iF, by rw [hF _ (by omega)]; exact p3, by rw [hF _ (by omega)]; exact p4, p5, by rw [hI 67 (by omega)]; exact p6, by rw [hI 69 (by omega)]; exact p7, by rw [hI _ (by omega)]; exact p8⟩
theorem AM.cg {a : Nat} (ha : a < 60) (m : AM N L I S a) (hI : ∀ j, relI j → I' j = I j) (hS : S' 73 = S 73) : AM N L I' S' a := by
  obtain ⟨a1, b, c, d⟩ := m
  unfold relI at hI
  exact ⟨by rw [hI 71 (by omega)]; exact a1, by rw [hI 72 (by omega)]; exact b, by rw [hS]; exact c, by rw [hI _ (by omega)]; exact d⟩
theorem MS.cg (wf : N 0 ≤ 6 ∧ N 1 ≤ 60) (ms : MS N L R I S F) (hR : ∀ j, relR j → R' j = R j) (hI : ∀ j, relI j → I' j = I j) (hS : ∀ j, relS j → S' j = S j) (hF : ∀ j, relF j → F' j = F j) : MS N L R' I' S' F' := by
  obtain ⟨mb, a1, a2, a3, a4, a5, a6, a7, a8, a9, b1, b2, b3, b4, b5, b6, b7, c1, c2⟩ := ms
  have iF := hF
  unfold relS at hS
  unfold relF at hF
  refine ⟨mb.cg hR iF, ?_, ?_, ?_, ?_, ?_, ?_, ?_, ?_, ?_, ?_, ?_, ?_, ?_, ?_, ?_, ?_, fun k hk => (c1 k hk).cg (by omega) hR hI (hS 63 (by omega)) iF, fun a ha => (c2 a ha).cg (by omega) hI (hS 73 (by omega))⟩
  · rw [hS 81 (by omega)]; exact a1
  · rw [hF 82 (by omega)]; exact a2
  · rw [hS 83 (by omega)]; exact a3
  · rw [hF 84 (by omega)]; exact a4
  · rw [hS 76 (by omega)]; exact a5
  · rw [hS 63 (by omega)]; exact a6
  · rw [hS 63 (by omega)]; exact a7
  · rw [hS 73 (by omega)]; exact a8
  · rw [hS 73 (by omega)]; exact a9
  · rw [hF 70 (by omega)]; exact b1
  · rw [hF 75 (by omega)]; exact b2
  · rw [hF 77 (by omega)]; exact b3
  · rw [hF 78 (by omega)]; exact b4
  · rw [hF 79 (by omega)]; exact b5
  · rw [hF 80 (by omega)]; exact b6
  · rw [hF 0 (by omega)]; exact b7
/-- changes of single things -/
theorem KM.n {k i v : Nat} (hi : i < 100) (m : KM N L R I S F k) : KM (up N i v) L R I S F k := by
  unfold KM limN at m ⊢
  rw [up_ne (by omega), up_ne (by omega), up_ne (by omega), up_ne (by omega), up_ne (by omega), up_ne (by omega), up_ne (by omega)]
  exact m
theorem AM.n {a i v : Nat} (hi : i < 100) (m : AM N L I S a) : AM (up N i v) L I S a := by
  unfold AM limN at m ⊢
  rw [up_ne (by omega), up_ne (by omega), up_ne (by omega), up_ne (by omega), up_ne (by omega)]
  exact m
theorem KM.l {k i : Nat} {v : List Int32} (hi : i < 100) (m : KM N L R I S F k) : KM N (up L i v) R I S F k := by
  unfold KM at m ⊢
  rw [up_ne (by omega)]
  exact m
theorem AM.l {a i : Nat} {v : List Int32} (hi : i < 100) (m : AM N L I S a) : AM N (up L i v) I S a := by
  unfold AM at m ⊢
  rw [up_ne (by omega)]
  exact m
theorem KM.f {k i : Nat} {v : Int32} (hi : i < 400) (m : KM N L R I S F k) (hk : k < 6) : KM N L R I S (up F i v) k := by
  obtain ⟨a, b, c, d, e, f⟩ := m
  refine ⟨a, b, c, d, fun t => ?_, fun t => ?_⟩
  · obtain ⟨⟨p1, p2, p3⟩, q, r⟩ := e t
    have es : spt R (up F i v) (25 + k) = spt R F (25 + k) := spt_cg rfl rfl (up_ne (by omega))
    exact ⟨⟨by rw [up_ne (by omega)]; exact p1, p2, by rw [es]; exact p3⟩, by rw [es]; exact q, r⟩
  · obtain ⟨sh, p1, p2, p3, p4, p5⟩ := f t
    refine ⟨sh, p1, ?_, by rw [up_ne (by omega)]; exact p3, by rw [up_ne (by omega)]; exact p4, p5⟩
    rcases p2 with z | z | ⟨z1, z2, s, z3, z4, z5, z6⟩
    · exact Or.inl z
    · exact Or.inr (Or.inl z)
    · exact Or.inr (Or.inr ⟨z1, z2, s, z3, by rw [up_ne (by omega)]; exact z4, by rw [up_ne (by omega)]; exact z5, z6⟩)
theorem MB.f {i : Nat} {v : Int32} (hi : i ≠ 26 ∧ i < 400) (mb : MB R F) : MB R (up F i v) := by
  obtain ⟨a, b, c, d, e, f, g⟩ := mb
  exact ⟨a, b, c, d, by rw [← e]; exact spt_cg rfl rfl (up_ne (by omega)), by rw [up_ne (by omega)]; exact f, by rw [up_ne (by omega)]; exact g⟩
/-- thrown is set -/
theorem MS.thr (wf : N 0 ≤ 6 ∧ N 1 ≤ 60) (ms : MS N L R I S F) (t : Nat) : MS (up N 6 t) L R I S (up F 0 (nI t)) := by
  obtain ⟨mb, a1, a2, a3, a4, a5, a6, a7, a8, a9, b1, b2, b3, b4, b5, b6, b7, c1, c2⟩ := ms
  refine ⟨mb.f (by decide), a1, ?_, a3, ?_, a5, a6, a7, a8, a9, ?_, ?_, ?_, ?_, ?_, ?_, ?_, fun k hk => ?_, fun a ha => ?_⟩
  · rw [up_ne (by decide)]; exact a2
  · rw [up_ne (by decide)]; exact a4
  · rw [up_ne (by decide), up_ne (by decide)]; exact b1
  · rw [up_ne (by decide), up_ne (by decide)]; exact b2
  · rw [up_ne (by decide), up_ne (by decide)]; exact b3
  · rw [up_ne (by decide), up_ne (by decide)]; exact b4
  · rw [up_ne (by decide), up_ne (by decide)]; exact b5
  · rw [up_ne (by decide), up_ne (by decide)]; exact b6
  · rw [up_same, up_same]
  · rw [up_ne (by decide)] at hk
    exact ((c1 k hk).f (by decide) (by omega)).n (by decide)
  · rw [up_ne (by decide)] at ha
    exact (c2 a ha).n (by decide)
/-- the tape is another -/
theorem MS.tape (wf : N 0 ≤ 6 ∧ N 1 ≤ 60) (ms : MS N L R I S F) (T : List Int32) : MS N (up L 0 T) R I (up S 81 T) (up F 82 (nI T.length)) := by
  obtain ⟨mb, a1, a2, a3, a4, a5, a6, a7, a8, a9, b1, b2, b3, b4, b5, b6, b7, c1, c2⟩ := ms
  refine ⟨mb.f (by decide), ?_, ?_, ?_, ?_, ?_, ?_, ?_, ?_, ?_, ?_, ?_, ?_, ?_, ?_, ?_, ?_, fun k hk => ?_, fun a ha => ?_⟩
  · rw [up_same, up_same]
  · rw [up_same, up_same]
  · rw [up_ne (by decide), up_ne (by decide)]; exact a3
  · rw [up_ne (by decide), up_ne (by decide)]; exact a4
  · rw [up_ne (by decide), up_ne (by decide)]; exact a5
  · rw [up_ne (by decide)]; exact a6
  · rw [up_ne (by decide)]; exact a7
  · rw [up_ne (by decide)]; exact a8
  · rw [up_ne (by decide)]; exact a9
  · rw [up_ne (by decide)]; exact b1
  · rw [up_ne (by decide)]; exact b2
  · rw [up_ne (by decide)]; exact b3
  · rw [up_ne (by decide)]; exact b4
  · rw [up_ne (by decide)]; exact b5
  · rw [up_ne (by decide)]; exact b6
  · rw [up_ne (by decide)]; exact b7
  · refine KM.l (by decide) (KM.f (by decide) ?_ (by omega))
    have := c1 k hk
    unfold KM at this ⊢
    rw [up_ne (by decide)]
    exact this
  · refine AM.l (by decide) ?_
    have := c2 a ha
    unfold AM at this ⊢
    rw [up_ne (by decide)]
    exact this
/-- what goes out is another -/
theorem MS.out (wf : N 0 ≤ 6 ∧ N 1 ≤ 60) (ms : MS N L R I S F) (T : List Int32) : MS N (up L 1 T) R I (up S 83 T) (up F 84 (nI T.length)) := by
  obtain ⟨mb, a1, a2, a3, a4, a5, a6, a7, a8, a9, b1, b2, b3, b4, b5, b6, b7, c1, c2⟩ := ms
  refine ⟨mb.f (by decide), ?_, ?_, ?_, ?_, ?_, ?_, ?_, ?_, ?_, ?_, ?_, ?_, ?_, ?_, ?_, ?_, fun k hk => ?_, fun a ha => ?_⟩
  · rw [up_ne (by decide), up_ne (by decide)]; exact a1
  · rw [up_ne (by decide), up_ne (by decide)]; exact a2
  · rw [up_same, up_same]
  · rw [up_same, up_same]
  · rw [up_ne (by decide), up_ne (by decide)]; exact a5
  · rw [up_ne (by decide)]; exact a6
  · rw [up_ne (by decide)]; exact a7
  · rw [up_ne (by decide)]; exact a8
  · rw [up_ne (by decide)]; exact a9
  · rw [up_ne (by decide)]; exact b1
  · rw [up_ne (by decide)]; exact b2
  · rw [up_ne (by decide)]; exact b3
  · rw [up_ne (by decide)]; exact b4
  · rw [up_ne (by decide)]; exact b5
  · rw [up_ne (by decide)]; exact b6
  · rw [up_ne (by decide)]; exact b7
  · refine KM.l (by decide) (KM.f (by decide) ?_ (by omega))
    have := c1 k hk
    unfold KM at this ⊢
    rw [up_ne (by decide)]
    exact this
  · refine AM.l (by decide) ?_
    have := c2 a ha
    unfold AM at this ⊢
    rw [up_ne (by decide)]
    exact this
/-- a shorter head of a row -/
theorem MW.takeS (w : MW A X R I S F h) (k : Nat) {t n : Nat} (hk : kdM k = (6, t, n)) (m : Nat) : MW A X R I (up S k ((S k).take m)) F h := by
  obtain ⟨f, c1, c2, c3⟩ := w.s k hk
  have := w.setS k hk (l := (S k).take m) (f := f) (fun j hj => ?_) (by rw [List.length_take]; omega)
  · rw [hset_same c1] at this
    exact this
  · rw [List.length_take] at hj
    rw [c2 j (by omega), List.getD_eq_getElem?_getD, List.getD_eq_getElem?_getD, List.getElem?_take, if_pos (by omega)]
def MQ3 (A : Nat → Nat) (X : AH) (o : O3) : Int32 → AH → Prop := fun r h' => r = o.1 ∧ MRep o.2.1 o.2.2 A X h'
theorem thrown_ok (g : GX) (m : MRep N L A X h) : MT g MX10_thrown ({ frames := 0, cells := 0, slots := 0, locals := 0 } : Room) [.ref (A 96)] h (RI fun r h' => r = nI (N 6) ∧ h' = h) := by
  obtain ⟨R, I, S, F, w, ms⟩ := m
  refine MT.of (by decide) (Nat.le_of_ble_eq_true rfl) ?_
  refine X_aload_n (pc := 0) 0 dX10_thrown_0 rfl rfl ?_
  refine X_getfield (pc := 1) dX10_thrown_1 fg_X10_1_11 (MW.ob w) mf_0 ?_
  rw [ms.2.2.2.2.2.2.2.2.2.2.2.2.2.2.2.2.1]
  refine X_ireturn (pc := 4) dX10_thrown_4 rfl (Nat.le_of_ble_eq_true rfl) (Nat.le_of_ble_eq_true rfl) ?_
  exact ⟨_, rfl, rfl, rfl⟩
theorem used_ok (g : GX) (w : MW A X R I S F h) : MT g MX10_used ({ frames := 0, cells := 0, slots := 0, locals := 0 } : Room) [.ref (A 96)] h (RI fun r h' => r = F 82 ∧ MW A X R I S (up (up F 0 0) 82 0) h') := by
  refine MT.of (by decide) (Nat.le_of_ble_eq_true rfl) ?_
  refine X_aload_n (pc := 0) 0 dX10_used_0 rfl rfl ?_
  refine X_iconst (pc := 1) (x := 0) dX10_used_1 (by decide) ?_
  refine X_putfield (pc := 2) dX10_used_2 fp_X10_1_11 (fun e => by cases e) (MW.ob w) rfl rfl (Nat.le_of_ble_eq_true rfl) ?_
  have w1 := w.setF0 (v := 0)
  generalize hset h (A 96) (Ob 11 ((mFl A F).set 0 (.int 0))) = h1 at *
  refine X_aload_n (pc := 5) 0 dX10_used_5 rfl rfl ?_
  refine X_getfield (pc := 6) dX10_used_6 fg_X10_582_11 (MW.ob w1) mf_82 ?_
  refine X_istore_n (pc := 9) (L' := [(1, .int _), (0, .ref _)]) dX10_used_9 rfl (Nat.le_of_ble_eq_true rfl) rfl ?_
  refine X_aload_n (pc := 10) 1 dX10_used_10 rfl rfl ?_
  refine X_iconst (pc := 11) (x := 0) dX10_used_11 (by decide) ?_
  refine X_putfield (pc := 12) dX10_used_12 fp_X10_582_11 (fun e => by cases e) (MW.ob w1) rfl rfl (Nat.le_of_ble_eq_true rfl) ?_
  have w2 := w1.setF82 (v := 0)
  refine X_iload_n (pc := 15) 0 dX10_used_15 rfl rfl ?_
  rw [up_ne (show 82 ≠ 0 by decide)]
  refine X_ireturn (pc := 16) dX10_used_16 rfl (Nat.le_of_ble_eq_true rfl) (Nat.le_of_ble_eq_true rfl) ?_
  exact ⟨_, rfl, rfl, w2⟩
theorem outs_ok (g : GX) (wf : Wf N L) (m : MRep N L A X h) : MT g MX10_outs ({ frames := 0, cells := 0, slots := 0, locals := 0 } : Room) [.ref (A 96)] h (RI (MQ3 A X (sOuts N L))) := by
  obtain ⟨R, I, S, F, w, ms⟩ := m
  refine MT.of (by decide) (Nat.le_of_ble_eq_true rfl) ?_
  refine X_aload_n (pc := 0) 0 dX10_outs_0 rfl rfl ?_
  refine X_iconst (pc := 1) (x := 0) dX10_outs_1 (by decide) ?_
  refine X_putfield (pc := 2) dX10_outs_2 fp_X10_1_11 (fun e => by cases e) (MW.ob w) rfl rfl (Nat.le_of_ble_eq_true rfl) ?_
  have w1 := w.setF0 (v := 0)
  refine X_aload_n (pc := 5) 0 dX10_outs_5 rfl rfl ?_
  refine X_getfield (pc := 6) dX10_outs_6 fg_X10_606_11 (MW.ob w1) mf_84 ?_
  rw [up_ne (show 84 ≠ 0 by decide), ms.2.2.2.2.1]
  refine X_ireturn (pc := 9) dX10_outs_9 rfl (Nat.le_of_ble_eq_true rfl) (Nat.le_of_ble_eq_true rfl) ?_
  exact ⟨_, rfl, rfl, _, _, _, _, w1, ms.thr ⟨wf.1, wf.2.1⟩ 0⟩
theorem outc_ok (g : GX) (wf : Wf N L) (m : MRep N L A X h) (i : Int32) : MT g MX10_out ({ frames := 0, cells := 0, slots := 0, locals := 0 } : Room) [.ref (A 96), .int i] h (RI (MQ3 A X (sOut N L i))) := by
  obtain ⟨R, I, S, F, w, ms⟩ := m
  refine MT.of (by decide) (Nat.le_of_ble_eq_true rfl) ?_
  have ms1 := ms.thr ⟨wf.1, wf.2.1⟩ 0
  have hl1 : (L 1).length ≤ 1200 := wf.2.2.2.2.2.2.2.2.1
  have a3 := ms1.2.2.2.1
  have a4 : up F 0 0 84 = nI (L 1).length := ms1.2.2.2.2.1
  refine X_aload_n (pc := 0) 0 dX10_out_0 rfl rfl ?_
  refine X_iconst (pc := 1) (x := 0) dX10_out_1 (by decide) ?_
  refine X_putfield (pc := 2) dX10_out_2 fp_X10_1_11 (fun e => by cases e) (MW.ob w) rfl rfl (Nat.le_of_ble_eq_true rfl) ?_
  have w1 := w.setF0 (v := 0)
  generalize hset h (A 96) (Ob 11 ((mFl A F).set 0 (.int 0))) = h1 at *
  have fin : ∀ x : Int32, x = (sOut N L i).1 → RI (MQ3 A X (sOut N L i)) (.returned (some (.int x))) h1 := fun x hx => ⟨x, rfl, hx, _, _, _, _, w1, ms.thr ⟨wf.1, wf.2.1⟩ 0⟩
  refine X_iload_n (pc := 5) 1 dX10_out_5 rfl rfl ?_
  by_cases c1 : i < 0
  · refine X_if_lt (pc := 6) 17 dX10_out_6 (by decide) (fun _ => ?_) (fun c => absurd c1 c)
    refine X_iconst (pc := 17) (x := (-1)) dX10_out_17 (by decide) ?_
    refine X_goto (pc := 18) 31 dX10_out_18 (by decide) ?_
    refine X_ireturn (pc := 31) dX10_out_31 rfl (Nat.le_of_ble_eq_true rfl) (Nat.le_of_ble_eq_true rfl) ?_
    exact fin _ (by unfold sOut; rw [if_pos (Or.inl c1)])
  · refine X_if_lt (pc := 6) 17 dX10_out_6 (by decide) (fun c => absurd c c1) (fun _ => ?_)
    refine X_iload_n (pc := 9) 1 dX10_out_9 rfl rfl ?_
    refine X_aload_n (pc := 10) 0 dX10_out_10 rfl rfl ?_
    refine X_getfield (pc := 11) dX10_out_11 fg_X10_606_11 (MW.ob w1) mf_84 ?_
    rw [a4]
    by_cases c2 : i < nI (L 1).length
    · refine X_icmp_lt (pc := 14) 21 dX10_out_14 (by decide) (fun _ => ?_) (fun c => absurd c2 c)
      obtain ⟨f83, c83, p83, -⟩ := w1.s 83 rfl
      rw [a3] at p83
      rcases pk_ix i (show (L 1).length < 2 ^ 31 by omega) with z | z | ⟨j, hj, rfl⟩
      · exact absurd z c1
      · exact absurd z (Int32.not_le.mpr c2)
      have bj : vp_in (nI j) 2900 := vp_in_nI (by omega) (by omega)
      have cj : (nI j).toNatClampNeg = j := nI_clamp (by omega)
      refine X_aload_n (pc := 21) 0 dX10_out_21 rfl rfl ?_
      refine X_getfield (pc := 22) dX10_out_22 fg_X10_537_11 (MW.ob w1) mf_83 ?_
      refine X_iload_n (pc := 25) 1 dX10_out_25 rfl rfl ?_
      refine X_baload (pc := 26) dX10_out_26 c83 bj ?_
      refine X_sipush (pc := 27) (x := 255) dX10_out_27 (by decide) ?_
      refine X_iand (pc := 30) dX10_out_30 ?_
      rw [cj, p83 j hj]
      refine X_ireturn (pc := 31) dX10_out_31 rfl (Nat.le_of_ble_eq_true rfl) (Nat.le_of_ble_eq_true rfl) ?_
      refine fin _ ?_
      unfold sOut
      rw [if_neg (fun z => z.elim c1 (fun z => absurd z (Int32.not_le.mpr c2))), cj]
    · refine X_icmp_lt (pc := 14) 21 dX10_out_14 (by decide) (fun c => absurd c c2) (fun _ => ?_)
      refine X_iconst (pc := 17) (x := (-1)) dX10_out_17 (by decide) ?_
      refine X_goto (pc := 18) 31 dX10_out_18 (by decide) ?_
      refine X_ireturn (pc := 31) dX10_out_31 rfl (Nat.le_of_ble_eq_true rfl) (Nat.le_of_ble_eq_true rfl) ?_
      exact fin _ (by unfold sOut; rw [if_pos (Or.inr (Int32.not_lt.mp c2))])
theorem endc_ok (g : GX) (wf : Wf N L) (m : MRep N L A X h) (n : Int32) : MT g MX10_end ({ frames := 0, cells := 0, slots := 0, locals := 0 } : Room) [.ref (A 96), .int n] h (RI (MQ3 A X (sEnd N L n))) := by
  obtain ⟨R, I, S, F, w, ms⟩ := m
  refine MT.of (by decide) (Nat.le_of_ble_eq_true rfl) ?_
  have ms1 := ms.thr ⟨wf.1, wf.2.1⟩ 0
  have hl0 : (L 0).length ≤ 1200 := wf.2.2.2.2.2.2.2.1
  have a1 := ms1.2.1
  have a2 := ms1.2.2.1
  have wf1 : (up N 6 0) 0 ≤ 6 ∧ (up N 6 0) 1 ≤ 60 := ⟨by rw [up_ne (by decide)]; exact wf.1, by rw [up_ne (by decide)]; exact wf.2.1⟩
  refine X_aload_n (pc := 0) 0 dX10_end_0 rfl rfl ?_
  refine X_iconst (pc := 1) (x := 0) dX10_end_1 (by decide) ?_
  refine X_putfield (pc := 2) dX10_end_2 fp_X10_1_11 (fun e => by cases e) (MW.ob w) rfl rfl (Nat.le_of_ble_eq_true rfl) ?_
  have w1 : MW A X R I S (up F 0 (nI 0)) (hset h (A 96) (Ob 11 ((mFl A F).set 0 (.int 0)))) := w.setF0 (v := 0)
  generalize hset h (A 96) (Ob 11 ((mFl A F).set 0 (.int 0))) = h1 at *
  have no : (n < 0 ∨ nI (L 0).length < n) → XX g MX10_end ({ frames := 0, cells := 0, slots := 0, locals := 0 } : Room) (RI (MQ3 A X (sEnd N L n))) 0 0 17 [(0, .ref (A 96)), (1, .int n)] [] h1 := by
    intro hc
    refine X_iconst (pc := 17) (x := 0) dX10_end_17 (by decide) ?_
    refine X_zreturn (pc := 18) dX10_end_18 rfl (by first | exact Or.inl rfl | exact Or.inr rfl | assumption | exact zo_if) (Nat.le_of_ble_eq_true rfl) (Nat.le_of_ble_eq_true rfl) ?_
    have e : sEnd N L n = (0, up N 6 0, L) := if_pos hc
    rw [e]
    exact ⟨0, rfl, rfl, _, _, _, _, w1, ms1⟩
  generalize up F 0 (nI 0) = F1 at *
  refine X_iload_n (pc := 5) 1 dX10_end_5 rfl rfl ?_
  by_cases c1 : n < 0
  · refine X_if_lt (pc := 6) 17 dX10_end_6 (by decide) (fun _ => no (Or.inl c1)) (fun c => absurd c1 c)
  · refine X_if_lt (pc := 6) 17 dX10_end_6 (by decide) (fun c => absurd c c1) (fun _ => ?_)
    refine X_iload_n (pc := 9) 1 dX10_end_9 rfl rfl ?_
    refine X_aload_n (pc := 10) 0 dX10_end_10 rfl rfl ?_
    refine X_getfield (pc := 11) dX10_end_11 fg_X10_582_11 (MW.ob w1) mf_82 ?_
    rw [a2]
    by_cases c2 : n ≤ nI (L 0).length
    · refine X_icmp_le (pc := 14) 19 dX10_end_14 (by decide) (fun _ => ?_) (fun c => absurd c2 c)
      rcases pk_ix n (show (L 0).length + 1 < 2 ^ 31 by omega) with z | z | ⟨j, hj, rfl⟩
      · exact absurd z c1
      · exact absurd (Int32.le_trans z c2) (nI_ge (by omega) (by omega))
      have cj : (nI j).toNatClampNeg = j := nI_clamp (by omega)
      refine X_aload_n (pc := 19) 0 dX10_end_19 rfl rfl ?_
      refine X_iload_n (pc := 20) 1 dX10_end_20 rfl rfl ?_
      refine X_putfield (pc := 21) dX10_end_21 fp_X10_582_11 (fun e => by cases e) (MW.ob w1) rfl rfl (Nat.le_of_ble_eq_true rfl) ?_
      have w2 := (w1.setF82 (v := nI j)).takeS 81 rfl j
      refine X_iconst (pc := 24) (x := 1) dX10_end_24 (by decide) ?_
      refine X_zreturn (pc := 25) dX10_end_25 rfl (by first | exact Or.inl rfl | exact Or.inr rfl | assumption | exact zo_if) (Nat.le_of_ble_eq_true rfl) (Nat.le_of_ble_eq_true rfl) ?_
      have e : sEnd N L (nI j) = (1, up N 6 0, up L 0 ((L 0).take j)) := by
        unfold sEnd
        rw [if_neg (fun z => z.elim c1 (fun z => absurd z (Int32.not_lt.mpr c2))), cj]
      rw [e]
      have ms2 := ms1.tape wf1 ((L 0).take j)
      rw [List.length_take, show min j (L 0).length = j by omega] at ms2
      rw [a1] at w2
      exact ⟨1, rfl, rfl, _, _, _, _, w2, ms2⟩
    · refine X_icmp_le (pc := 14) 19 dX10_end_14 (by decide) (fun c => absurd c c2) (fun _ => no (Or.inr (Int32.not_le.mp c2)))
end MC1
