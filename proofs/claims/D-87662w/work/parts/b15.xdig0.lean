set_option maxRecDepth 100000
/-! VeilMint's digests: what is common -/
section XCL
variable {g : GX} {M : MI} {rm : Room} {Q : Outcome → AH → Prop} {k n pc : Nat} {L : List (Nat × Value)} {st rest : List Value} {h : AH}
/-- longs are copied out of an array that nobody writes -/
theorem X_copyLro {idx a0 a n0 n1 : Nat} {f f1 : Nat → Int64} {sp dp num : Int32} (sN dN nN : Nat) (hdg : decode M.2.1 pc = .ok (.invokestatic idx, 3)) (hlk : Cond.methodLink M.1.cls idx arraycopyName ∈ lw_all) (ha0 : h a0 = some (Al true n0 f)) (ha1 : h a = some (Al false n1 f1))
    (e1 : sp = nI sN) (e2 : dp = nI dN) (e3 : num = nI nN) (b1 : sN + nN ≤ n0) (b2 : dN + nN ≤ n1) (b3 : n0 < 2 ^ 31 ∧ n1 < 2 ^ 31) (hfr : 1 ≤ rm.frames) (hlo : (rest.map fun v => v.category).sum + (nativeFrameWords "java/lang/System" "arraycopy" 5 + 11) ≤ rm.locals)
    (kk : XX g M rm Q k n (pc + 3) L rest (hset h a (Al false n1 (va_cpy f f1 sN dN nN)))) : XX g M rm Q k n pc L (.int num :: .int dp :: .ref a :: .int sp :: .ref a0 :: rest) h := by
  intro p l e s m args below meth c locs H ls C hl hA hS
  subst e1 e2 e3
  obtain ⟨q1, hq1⟩ := hA.at ha1 rfl
  have c1 : (nI sN).toNatClampNeg = sN := nI_clamp (by omega)
  have c2 : (nI dN).toNatClampNeg = dN := nI_clamp (by omega)
  have c3 : (nI nN).toNatClampNeg = nN := nI_clamp (by omega)
  have p1 : ¬ nI sN < 0 := nI_pos (by omega)
  have p2 : ¬ nI dN < 0 := nI_pos (by omega)
  have p3 : ¬ nI nN < 0 := nI_pos (by omega)
  have nn : ∀ z : Int32, ¬ z < 0 → z.toInt = (z.toNatClampNeg : Int) := by
    intro z hz
    have hz0 : (0 : Int) ≤ z.toInt := by
      have := Int32.not_lt.mp hz
      simpa using Int32.le_iff_toInt_le.mp this
    show z.toInt = ((z.toInt.toNat : Nat) : Int)
    omega
  obtain ⟨scr, hs1, ⟨hs6, k0, hk0, cm0, hkk0⟩, hs3, hs4, -, hs5, -⟩ := (hA.2.1 a0 _ ha0 rfl).2
  intro T hT X
  have hc1 : H[a]? = some (vp_cell (gC g 1) (n1, .inr (.inl f1))) := hA.P q1 _ hq1
  obtain ⟨-, k1, hk1, cm1, hkk1⟩ := (C.K.2 1 (gC g 1, .long) rfl).1 n1 (fun j => .long (f1 j))
  obtain ⟨vm', X', step⟩ := X.arraycopy C.1 C.own (C.ws _ hlk) (C.ws _ q258) (C.ws _ q257) (C.ws _ q108) (src := a0) (dst := a) (cs := scr) (cd := vp_cell (gC g 1) (n1, .inr (.inl f1))) (srcPos := nI sN) (destPos := nI dN) (n := nI nN) (by rw [hT]; exact hs1) (by rw [hT]; exact hc1)
    hs6 (fun _ h => by cases h) hs3 (fun h => by cases h) hk0 hk1 hkk0 hkk1 (by simp [refKind]) p1 p2 p3
    (by rw [nn _ p1, nn _ p3, c1, c3]; omega)
    (by rw [nn _ p2, nn _ p3, c2, c3]; show ¬ _ > ((arrV (gC g 1) n1 (fun j => .long (f1 j))).slots.size : Int); rw [arrV_size]; omega)
    (fun vm₁ _ i hi => by
      rw [c3] at hi
      have e : scr.slots.getD ((nI sN).toNatClampNeg + i) .null = .long (f ((nI sN).toNatClampNeg + i)) := by
        rw [Array.getD_eq_getD_getElem?, hs5 _ (by rw [c1]; omega)]
        rfl
      refine ⟨?_, ?_⟩
      · rw [e]
        rfl
      · rw [e]
        exact trivial)
    (g := F0 m pc ls (.int (nI nN) :: .int (nI dN) :: .ref a :: .int (nI sN) :: .ref a0 :: rest)) rfl (by rw [C.2.2.1]; exact hl.1) (rest := rest) rfl (by rw [C.2.1]; exact hdg) hfr (by show 2 * 0 + _ + _ ≤ _; omega)
  have ec : copied scr (vp_cell (gC g 1) (n1, .inr (.inl f1))) (nI sN) (nI dN) (nI nN) = vp_cell (gC g 1) (n1, .inr (.inl (va_cpy f f1 sN dN nN))) := by
    have := va_copiedX (fun z => .long z) scr (gC g 1) f f1 (n0 := n0) (n1 := n1) (sp := (nI sN).toNatClampNeg) (dp := (nI dN).toNatClampNeg) (n := (nI nN).toNatClampNeg) hs5 (by rw [c1, c3]; exact b1)
    rw [show va_cpy f f1 sN dN nN = va_cpy f f1 (nI sN).toNatClampNeg (nI dN).toNatClampNeg (nI nN).toNatClampNeg by rw [c1, c2, c3]]
    exact this
  rw [ec] at X' step
  have hlt : a < H.size := (Array.getElem?_eq_some_iff.mp hc1).1
  have hheap : ((T.setVm vm').setCell a (vp_cell (gC g 1) (n1, .inr (.inl (va_cpy f f1 sN dN nN))))).heap = H.setIfInBounds a (vp_cell (gC g 1) (n1, .inr (.inl (va_cpy f f1 sN dN nN)))) := by rw [← hT]; rfl
  have oq : ∀ q : Nat, q ≠ a → (H.setIfInBounds a (vp_cell (gC g 1) (n1, .inr (.inl (va_cpy f f1 sN dN nN)))))[q]? = H[q]? := fun q hq => by simp [Array.getElem?_setIfInBounds, Ne.symm hq]
  have hP1 : va_P (gD g) vwCl ((wsOf g h H.size).set q1 (a, .inl (gC g 1, n1, .inr (.inl (va_cpy f f1 sN dN nN))))) (H.setIfInBounds a (vp_cell (gC g 1) (n1, .inr (.inl (va_cpy f f1 sN dN nN))))) := hA.P.set hA.D hq1 (show (H.setIfInBounds a _)[a]? = some _ by simp [Array.getElem?_setIfInBounds, hlt]) oq
  have fin : ∀ locs1, Stand p l e rm s m args below meth c ((T.setVm vm').setCell a (vp_cell (gC g 1) (n1, .inr (.inl (va_cpy f f1 sN dN nN))))) locs1 k n → (∀ q ∈ locs1, gA g q.base) → ∃ t, Steps p.tables e below (((T.setVm vm').setCell a (vp_cell (gC g 1) (n1, .inr (.inl (va_cpy f f1 sN dN nN))))).setTop (F0 m (pc + 3) ls rest)) t ∧ MQ2 below (QQ g Q) args s rm.cells rm.slots (gA g) t := by
    intro locs1 X1 hL
    have hS1 : va_S (gA g) s.heap (H.setIfInBounds a (vp_cell (gC g 1) (n1, .inr (.inl (va_cpy f f1 sN dN nN))))) locs1 := ⟨by simp; exact hS.1, fun q g1 g2 => by
      rw [oq q (fun e => g2 (by rw [e]; exact hA.D.2 q1 _ hq1))]
      exact hS.2.1 q g1 g2, hL⟩
    exact kk p l e s m args below meth c _ _ ls C hl (hA.set ha1 rfl hq1 rfl (by trivial) hP1 C.z hS hS1) hS1 _ hheap X1
  obtain ⟨t, a1, b1⟩ := fin _ X' (fun q hq => by
    rcases List.mem_append.mp hq with h | h
    · exact hS.2.2 q h
    · obtain ⟨z, -, hz⟩ := List.mem_map.mp h
      rw [← hz]
      exact hA.D.2 q1 _ hq1)
  exact ⟨t, step t a1, b1⟩
end XCL
theorem i8i {x : Int32} : x.toInt8.toInt32.toInt8.toInt32 = x.toInt8.toInt32 := by rw [Int8.toInt8_toInt32]
theorem B_nar {l : List Int32} (h : IsB l) (j : Nat) : (l.getD j 0).toInt8.toInt32 = l.getD j 0 := by
  rw [toInt8_low]
  by_cases c : j < l.length
  · have hm : l.getD j 0 ∈ l := by
      rw [List.getD_eq_getElem?_getD, List.getElem?_eq_getElem c]
      exact List.getElem_mem c
    exact h _ hm
  · rw [List.getD_eq_getElem?_getD, List.getElem?_eq_none (by omega)]
    decide
theorem many1 {n : Nat} (h : n + 1 < 2 ^ 31) : (nI n).toInt64 + 1 = (nI (n + 1)).toInt64 := by
  apply Int64.toInt_inj.mp
  have e1 : (nI n).toInt64.toInt = n := by rw [Int32.toInt_toInt64]; exact nI_toInt (by omega)
  have e2 : (nI (n + 1)).toInt64.toInt = ((n + 1 : Nat) : Int) := by rw [Int32.toInt_toInt64]; exact nI_toInt h
  have e3 : (1 : Int64).toInt = 1 := rfl
  rw [l_add (by rw [e1, e3]; omega) (by rw [e1, e3]; omega), e1, e2, e3]
  omega
theorem sub_snoc (l : List Int32) (fr i : Nat) : sub l fr (i + 1) = sub l fr i ++ [l.getD (fr + i) 0] := by
  unfold sub
  rw [List.range_succ, List.map_append, List.map_singleton]
theorem getD_snoc_lt {l : List Int32} {x : Int32} {j : Nat} (h : j < l.length) : (l ++ [x]).getD j 0 = l.getD j 0 := by
  rw [List.getD_eq_getElem?_getD, List.getElem?_append_left h, ← List.getD_eq_getElem?_getD]
theorem getD_snoc_eq {l : List Int32} {x : Int32} : (l ++ [x]).getD l.length 0 = x := by
  rw [List.getD_eq_getElem?_getD, List.getElem?_concat_length]
  rfl
theorem wwP_cg {m m' : Nat → Int32} {a a' i : Nat} : ∀ n, (∀ j, j < n → m (a + 8 * i + j) = m' (a' + 8 * i + j)) → wwP m a i n = wwP m' a' i n
  | 0, _ => rfl
  | n + 1, h => by
    show _ ||| _ = _ ||| _
    rw [wwP_cg n (fun j hj => h j (by omega)), h n (by omega)]
theorem wdP_cg {m m' : Nat → Int32} {a a' i : Nat} : ∀ n, (∀ j, j < n → m (a + 4 * i + j) = m' (a' + 4 * i + j)) → wdP m a i n = wdP m' a' i n
  | 0, _ => rfl
  | n + 1, h => by
    show _ ||| _ = _ ||| _
    rw [wdP_cg n (fun j hj => h j (by omega)), h n (by omega)]
theorem IsWide.cg {m m' : Nat → Int32} {a a' n : Nat} {f : Nat → Int64} (hf : IsWide m a n f) (h : ∀ j, j < 128 → m (a + j) = m' (a' + j)) : IsWide m' a' n f := fun i hi => by
  refine ⟨fun c => ?_, (hf i hi).2⟩
  rw [(hf i hi).1 c]
  refine wwP_cg 8 fun j hj => ?_
  rw [Nat.add_assoc, Nat.add_assoc]
  exact h _ (by omega)
theorem IsSched.cg {m m' : Nat → Int32} {a a' n : Nat} {f : Nat → Int32} (hf : IsSched m a n f) (h : ∀ j, j < 64 → m (a + j) = m' (a' + j)) : IsSched m' a' n f := fun i hi => by
  refine ⟨fun c => ?_, (hf i hi).2⟩
  rw [(hf i hi).1 c]
  refine wdP_cg 4 fun j hj => ?_
  rw [Nat.add_assoc, Nat.add_assoc]
  exact h _ (by omega)
theorem chL_cg {m m' : Nat → Int32} : ∀ b, (∀ j, j < 128 * b → m j = m' j) → ∀ j, j < 8 → chL m b j = chL m' b j
  | 0, _ => fun _ _ => rfl
  | b + 1, h => fun j hj => by
    have ih := chL_cg b (fun j hj => h j (by omega))
    exact cmpL_step (m := m') ((wsch_ok m (128 * b)).cg fun i hi => h _ (by omega)) ih j hj
theorem chF_cg {m m' : Nat → Int32} : ∀ b, (∀ j, j < 64 * b → m j = m' j) → ∀ j, j < 8 → chF m b j = chF m' b j
  | 0, _ => fun _ _ => rfl
  | b + 1, h => fun j hj => by
    have ih := chF_cg b (fun j hj => h j (by omega))
    exact cmpF_step (m := m') ((ssch_ok m (64 * b)).cg fun i hi => h _ (by omega)) ih j hj
theorem tb_i (n : Nat) : (nI n).toInt8.toInt32 = tb n := by rw [toInt8_low, tb_u]
