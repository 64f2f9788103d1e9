set_option maxRecDepth 100000
/-! VeilMint's moduli: making one -/
/-- what lies beyond an array's end may be told anew -/
def AiE (h h' : AH) : Prop := ∀ a, h' a = h a ∨ ∃ n f f', h a = some (Ai false 0 n f) ∧ h' a = some (Ai false 0 n f') ∧ ∀ j, j < n → f j = f' j
theorem AR.arI {g : GX} {h h' : AH} {U : State} {H : Heap} (r : AR g h U H) (e : AiE h h') : AR g h' U H := by
  refine ⟨fun a c x ha hx => ?_, fun a c ha hx => ?_, fun a c ha => ?_⟩
  · rcases e a with z | ⟨n, f, f', z1, z2, z3⟩
    · exact r.1 a c x (z ▸ ha) hx
    · rw [z2] at ha
      cases ha
      cases hx
      obtain ⟨y1, y2, y3⟩ := r.1 a _ _ z1 rfl
      refine ⟨y1, ?_, fun z => absurd z (by decide)⟩
      have y2 : H[a]? = some (vp_cell _ _) := y2
      show H[a]? = some (vp_cell _ _)
      rw [vp_cell_i] at y2 ⊢
      rw [y2]
      congr 1
      exact arrV_cg fun j hj => by rw [z3 j hj]
  · rcases e a with z | ⟨n, f, f', z1, z2, z3⟩
    · exact r.2.1 a c (z ▸ ha) hx
    · rw [z2] at ha
      cases ha
      cases hx
  · obtain ⟨y1, y2⟩ := r.2.2 a c ha
    rcases e a with z | ⟨n, f, f', z1, z2, z3⟩
    · exact ⟨z.trans y1, y2⟩
    · rw [z1] at y1
      cases y1
      cases y2
theorem XX.arI {g : GX} {M : MI} {rm : Room} {Q : Outcome → AH → Prop} {k n pc : Nat} {L : List (Nat × Value)} {st : List Value} {h h' : AH} (e : AiE h h') (kk : XX g M rm Q k n pc L st h') : XX g M rm Q k n pc L st h :=
  fun p l e' s m args below meth c locs H ls C hl hA hS => kk p l e' s m args below meth c locs H ls C hl (hA.arI e) hS
theorem AiE.set {h : AH} {a n v : Nat} {f : Nat → Int32} (ha : h a = some (Ai false 0 n f)) (hv : V n f = v) : AiE h (hset h a (nm n v)) := fun x => by
  by_cases e : x = a
  · refine Or.inr ⟨n, f, lim v, by rw [e]; exact ha, by rw [e, hset_self], fun j hj => ?_⟩
    rw [← hv, lim_V f hj]
  · exact Or.inl (hset_ne e)
theorem V_one {n : Nat} : V (n + 1) (upd (fun _ => (0 : Int32)) 0 1) = 1 := by
  induction n with
  | zero => decide
  | succ n ih =>
    show V (n + 1) _ + u32 (upd (fun _ => (0 : Int32)) 0 1 (n + 1)) * _ = 1
    rw [ih, pk_un (by omega)]
    show 1 + 0 * _ = 1
    omega
theorem V_low0 {n : Nat} {f : Nat → Int32} : ∃ t, V (n + 1) f = u32 (f 0) + t * 2 ^ 32 := by
  induction n with
  | zero => exact ⟨0, by show 0 + u32 (f 0) * 2 ^ (32 * 0) = _; omega⟩
  | succ n ih =>
    obtain ⟨t, e⟩ := ih
    refine ⟨t + u32 (f (n + 1)) * 2 ^ (32 * n), ?_⟩
    show V (n + 1) f + u32 (f (n + 1)) * 2 ^ (32 * (n + 1)) = _
    rw [e, show 32 * (n + 1) = 32 * n + 32 by omega, Nat.pow_add, Nat.add_mul, Nat.mul_assoc, Nat.add_assoc]
theorem mi_mul (x y : Int32) : ∃ t : Int, (u32 (x * y) : Int) = u32 x * u32 y + t * 2 ^ 32 := by
  refine ⟨-((u32 x * u32 y / 2 ^ 32 : Nat) : Int), ?_⟩
  rw [u32_mul]
  have := Nat.div_add_mod (u32 x * u32 y) (2 ^ 32)
  have e : ((u32 x * u32 y : Nat) : Int) = u32 x * u32 y := Int.natCast_mul _ _
  rw [← e]
  omega
theorem mi_sub (x y : Int32) : ∃ t : Int, (u32 (x - y) : Int) = u32 x - u32 y + t * 2 ^ 32 := by
  have h1 := u32_lt x
  have h2 := u32_lt y
  rw [u32_sub]
  by_cases c : u32 y ≤ u32 x
  · exact ⟨0, by omega⟩
  · exact ⟨1, by omega⟩
theorem ng_alg {M I N D K s t1 t2 t3 : Int} (h1 : M * I - 1 = D * s) (h2 : N = I * (2 - (M * I + t1 * (D * D * K)) + t2 * (D * D * K)) + t3 * (D * D * K)) : M * N - 1 = D * D * (-(s * s) + K * (M * I * (t2 - t1) + M * t3)) := by
  have h3 : M * I = 1 + D * s := by grind
  have h4 : M * N = (M * I) * (2 - (M * I)) + (D * D * K) * (M * I * (t2 - t1) + M * t3) := by grind
  rw [h4, h3]
  grind
theorem ng_step {m i : Int32} {d : Nat} (hd : 2 * d ≤ 32) (h : ∃ s : Int, (u32 m : Int) * u32 i - 1 = 2 ^ d * s) : ∃ s : Int, (u32 m : Int) * u32 (i * (2 - m * i)) - 1 = 2 ^ (2 * d) * s := by
  obtain ⟨s, h⟩ := h
  obtain ⟨t1, e1⟩ := mi_mul m i
  obtain ⟨t2, e2⟩ := mi_sub 2 (m * i)
  obtain ⟨t3, e3⟩ := mi_mul i (2 - m * i)
  have ew : (2 : Int) ^ 32 = 2 ^ d * 2 ^ d * 2 ^ (32 - 2 * d) := by rw [← Int.pow_add, ← Int.pow_add]; congr 1; omega
  rw [ew] at e1 e2 e3
  have u2 : ((u32 2 : Nat) : Int) = 2 := rfl
  rw [e1, u2] at e2
  rw [e2] at e3
  have := ng_alg h e3
  rw [show (2 : Int) ^ (2 * d) = 2 ^ d * 2 ^ d by rw [← Int.pow_add]; congr 1; omega]
  exact ⟨_, this⟩
theorem ng_end {m i : Int32} {mv t : Nat} (h : ∃ s : Int, (u32 m : Int) * u32 i - 1 = 2 ^ 32 * s) (hm : mv = u32 m + t * 2 ^ 32) : (u32 (-i) * mv + 1) % 2 ^ 32 = 0 := by
  obtain ⟨s, h⟩ := h
  have hi := u32_lt i
  have e : u32 (-i) = (2 ^ 32 - u32 i) % 2 ^ 32 := u32_neg i
  have e2 : ∃ q : Int, (u32 (-i) : Int) = -(u32 i : Int) + q * 2 ^ 32 := by
    by_cases c : u32 i = 0
    · exact ⟨0, by rw [e, c]; rfl⟩
    · exact ⟨1, by omega⟩
  obtain ⟨q, e2⟩ := e2
  have e3 : ((u32 (-i) * mv + 1 : Nat) : Int) = 2 ^ 32 * (q * (u32 m + t * 2 ^ 32) - u32 i * t - s) := by
    rw [hm]
    rw [Int.natCast_add, Int.natCast_mul, Int.natCast_add, Int.natCast_mul, e2]
    show (-(u32 i : Int) + q * 2 ^ 32) * (u32 m + t * 2 ^ 32) + 1 = _
    generalize (u32 i : Int) = I at *
    generalize (u32 m : Int) = M at *
    generalize (2 : Int) ^ 32 = W at *
    grind
  omega
section XMi
variable {g : GX} {h : AH} {b a : Nat}
/-- the fields of a modulus while it is being made -/
def fsM (c : Nat → Nat) (n a k : Nat) (ng : Int32) : List Value := [.int (nI n), .ref a, if 2 < k then .ref (c 2) else .null, if 3 < k then .ref (c 3) else .null, if 4 < k then .ref (c 4) else .null, if 5 < k then .ref (c 5) else .null, if 6 < k then .ref (c 6) else .null, if 7 < k then .ref (c 7) else .null, if 8 < k then .ref (c 8) else .null, if 9 < k then .ref (c 9) else .null, .int ng]
def zM (n i : Nat) : AC := Ai false 0 (if i = 5 then n + 2 else n) (fun _ => 0)
def PM (h0 : AH) (b a n k : Nat) (c : Nat → Nat) (h : AH) : Prop :=
  h b = some (Ob 4 (fsM c n a k 0)) ∧ (∀ i, 2 ≤ i → i < k → h0 (c i) = none ∧ c i ≠ b ∧ h (c i) = some (zM n i)) ∧ (∀ i j, 2 ≤ i → i < k → 2 ≤ j → j < k → c i = c j → i = j) ∧ ∀ x, x ≠ b → (∀ i, 2 ≤ i → i < k → c i ≠ x) → h x = h0 x
theorem PM.step {h0 : AH} {n k : Nat} {c : Nat → Nat} (hk : 2 ≤ k) (p : PM h0 b a n k c h) {q : Nat} (hq : h q = none) (hf : (fsM c n a k 0).set k (.ref q) = fsM (up c k q) n a (k + 1) 0) : PM h0 b a n (k + 1) (up c k q) (hset (hset h q (zM n k)) b (Ob 4 ((fsM c n a k 0).set k (.ref q)))) := by
  obtain ⟨p1, p2, p3, p4⟩ := p
  have qb : q ≠ b := fun z => by rw [z, p1] at hq; cases hq
  have qc : ∀ i, 2 ≤ i → i < k → c i ≠ q := fun i h1 h2 z => by
    have := (p2 i h1 h2).2.2
    rw [z, hq] at this
    cases this
  have q0 : h0 q = none := by rw [← p4 q qb qc]; exact hq
  refine ⟨by rw [hset_self, hf], fun i h1 h2 => ?_, fun i j h1 h2 h3 h4 e => ?_, fun x hx hc => ?_⟩
  · by_cases e : i = k
    · rw [e, up_same]
      exact ⟨q0, qb, by rw [hset_ne qb, hset_self]⟩
    · have z := p2 i h1 (by omega)
      rw [up_ne e]
      refine ⟨z.1, z.2.1, ?_⟩
      rw [hset_ne z.2.1, hset_ne (qc i h1 (by omega))]
      exact z.2.2
  · by_cases e1 : i = k
    · by_cases e2 : j = k
      · rw [e1, e2]
      · rw [e1, up_same, up_ne e2] at e
        exact absurd e.symm (qc j h3 (by omega))
    · by_cases e2 : j = k
      · rw [e2, up_same, up_ne e1] at e
        exact absurd e (qc i h1 (by omega))
      · rw [up_ne e1, up_ne e2] at e
        exact p3 i j h1 (by omega) h3 (by omega) e
  · have xq : x ≠ q := fun z => hc k hk (Nat.lt_succ_self k) (by rw [up_same]; exact z.symm)
    rw [hset_ne hx, hset_ne xq]
    refine p4 x hx fun i h1 h2 => ?_
    have := hc i h1 (by omega)
    rw [up_ne (by omega)] at this
    exact this
set_option maxHeartbeats 16000000 in
theorem modulusInit_ok {n mv : Nat} {fm : Nat → Int32} (hb : h b = some (Ob 4 [.int 0, .null, .null, .null, .null, .null, .null, .null, .null, .null, .int 0])) (ha : h a = some (Ai false 0 (n + 1) fm)) (hV : V (n + 1) fm = mv) (hodd : mv % 2 = 1) (hbig : 1 < mv) (hn : n < 64) :
    MT g MX6_init ({ frames := 4, cells := 8, slots := 520, locals := 88 } : Room) [.ref b, .ref a] h (RV fun h' => ∃ (c : Nat → Nat) (ng : Int32), c 1 = a ∧ (∀ i, 2 ≤ i → i < 10 → h (c i) = none ∧ c i ≠ b) ∧ (∀ i j, 2 ≤ i → i < 10 → 2 ≤ j → j < 10 → c i = c j → i = j) ∧ h' b = some (MdC c (n + 1) ng) ∧ (u32 ng * mv + 1) % 2 ^ 32 = 0 ∧ h' a = some (nm (n + 1) mv) ∧ h' (c 2) = some (nm (n + 1) (2 ^ (32 * (n + 1)) % mv)) ∧ h' (c 3) = some (nm (n + 1) (2 ^ (32 * (n + 1)) * 2 ^ (32 * (n + 1)) % mv)) ∧ h' (c 4) = some (nm (n + 1) 1) ∧
      (∀ i, 5 ≤ i → i < 10 → h' (c i) = some (zM (n + 1) i)) ∧ ∀ x, x ≠ a → x ≠ b → (∀ i, 2 ≤ i → i < 10 → c i ≠ x) → h' x = h x) := by
  refine MT.of (by decide) (Nat.le_of_ble_eq_true rfl) ?_
  generalize hQ : (RV fun h' => ∃ (c : Nat → Nat) (ng : Int32), c 1 = a ∧ (∀ i, 2 ≤ i → i < 10 → h (c i) = none ∧ c i ≠ b) ∧ (∀ i j, 2 ≤ i → i < 10 → 2 ≤ j → j < 10 → c i = c j → i = j) ∧ h' b = some (MdC c (n + 1) ng) ∧ (u32 ng * mv + 1) % 2 ^ 32 = 0 ∧ h' a = some (nm (n + 1) mv) ∧ h' (c 2) = some (nm (n + 1) (2 ^ (32 * (n + 1)) % mv)) ∧ h' (c 3) = some (nm (n + 1) (2 ^ (32 * (n + 1)) * 2 ^ (32 * (n + 1)) % mv)) ∧ h' (c 4) = some (nm (n + 1) 1) ∧ (∀ i, 5 ≤ i → i < 10 → h' (c i) = some (zM (n + 1) i)) ∧ ∀ x, x ≠ a → x ≠ b → (∀ i, 2 ≤ i → i < 10 → c i ≠ x) → h' x = h x) = Q
  have ab : a ≠ b := fun e => by rw [e, hb] at ha; cases ha
  refine X_aload_n (pc := 0) 0 dX6_init_0 rfl rfl ?_
  refine X_objInit (pc := 1) dX6_init_1 q252 q131 q132 (Nat.le_of_ble_eq_true rfl) (Nat.le_of_ble_eq_true rfl) ?_
  refine X_aload_n (pc := 4) 0 dX6_init_4 rfl rfl ?_
  refine X_aload_n (pc := 5) 1 dX6_init_5 rfl rfl ?_
  refine X_alenI (pc := 6) dX6_init_6 ha (fun _ => rfl) ?_
  refine X_putfield (pc := 7) dX6_init_7 fp_X6_7_4 (fun _ => rfl) hb rfl rfl (Nat.le_of_ble_eq_true rfl) ?_
  refine X_aload_n (pc := 10) 0 dX6_init_10 rfl rfl ?_
  refine X_aload_n (pc := 11) 1 dX6_init_11 rfl rfl ?_
  refine X_putfield (pc := 12) dX6_init_12 fp_X6_13_4 (fun _ => rfl) (hset_self _ _ _) rfl rfl (Nat.le_of_ble_eq_true rfl) ?_
  have p2 : PM h b a (n + 1) 2 (fun _ => a) (hset (hset h b (Ob 4 ([.int 0, .null, .null, .null, .null, .null, .null, .null, .null, .null, .int 0].set 0 (.int (nI (n + 1)))))) b (Ob 4 (([.int 0, .null, .null, .null, .null, .null, .null, .null, .null, .null, .int 0].set 0 (.int (nI (n + 1)))).set 1 (.ref a)))) :=
    ⟨by rw [hset_self]; rfl, fun i h1 h2 => absurd h2 (by omega), fun i j h1 h2 => absurd h2 (by omega), fun x hx _ => by rw [hset_ne hx, hset_ne hx]⟩
  generalize hset (hset h b _) b _ = h2 at p2 ⊢
  generalize (fun _ => a) = c2 at p2
  refine X_aload_n (pc := 15) 0 dX6_init_15 rfl rfl ?_
  refine X_aload_n (pc := 16) 0 dX6_init_16 rfl rfl ?_
  refine X_getfield (pc := 17) dX6_init_17 fg_X6_7_4 p2.1 (by first | rfl | assumption) ?_
  refine X_new_int (n + 1) (pc := 20) dX6_init_20 rfl (by omega) (by dsimp only; omega) (by dsimp only; omega) (fun q2 hq2 => ?_)
  have p3 := p2.step (by decide) hq2 rfl
  rw [show zM (n + 1) 2 = Ai false 0 (n + 1) (fun _ => 0) from rfl] at p3
  have hbq2 : hset h2 q2 (Ai false 0 (n + 1) fun _ => 0) b = some (Ob 4 (fsM c2 (n + 1) a 2 0)) := by rw [hset_ne (fun e => by rw [← e, p2.1] at hq2; cases hq2)]; exact p2.1
  refine X_putfield (pc := 22) dX6_init_22 fp_X6_17_4 (fun _ => rfl) hbq2 rfl rfl (Nat.le_of_ble_eq_true rfl) ?_
  generalize hset (hset h2 q2 _) b _ = h3 at p3 ⊢
  generalize up c2 2 q2 = c3 at p3
  refine X_aload_n (pc := 25) 0 dX6_init_25 rfl rfl ?_
  refine X_aload_n (pc := 26) 0 dX6_init_26 rfl rfl ?_
  refine X_getfield (pc := 27) dX6_init_27 fg_X6_7_4 p3.1 (by first | rfl | assumption) ?_
  refine X_new_int (n + 1) (pc := 30) dX6_init_30 rfl (by omega) (by dsimp only; omega) (by dsimp only; omega) (fun q3 hq3 => ?_)
  have p4 := p3.step (by decide) hq3 rfl
  rw [show zM (n + 1) 3 = Ai false 0 (n + 1) (fun _ => 0) from rfl] at p4
  have hbq3 : hset h3 q3 (Ai false 0 (n + 1) fun _ => 0) b = some (Ob 4 (fsM c3 (n + 1) a 3 0)) := by rw [hset_ne (fun e => by rw [← e, p3.1] at hq3; cases hq3)]; exact p3.1
  refine X_putfield (pc := 32) dX6_init_32 fp_X6_20_4 (fun _ => rfl) hbq3 rfl rfl (Nat.le_of_ble_eq_true rfl) ?_
  generalize hset (hset h3 q3 _) b _ = h4 at p4 ⊢
  generalize up c3 3 q3 = c4 at p4
  refine X_aload_n (pc := 35) 0 dX6_init_35 rfl rfl ?_
  refine X_aload_n (pc := 36) 0 dX6_init_36 rfl rfl ?_
  refine X_getfield (pc := 37) dX6_init_37 fg_X6_7_4 p4.1 (by first | rfl | assumption) ?_
  refine X_new_int (n + 1) (pc := 40) dX6_init_40 rfl (by omega) (by dsimp only; omega) (by dsimp only; omega) (fun q4 hq4 => ?_)
  have p5 := p4.step (by decide) hq4 rfl
  rw [show zM (n + 1) 4 = Ai false 0 (n + 1) (fun _ => 0) from rfl] at p5
  have hbq4 : hset h4 q4 (Ai false 0 (n + 1) fun _ => 0) b = some (Ob 4 (fsM c4 (n + 1) a 4 0)) := by rw [hset_ne (fun e => by rw [← e, p4.1] at hq4; cases hq4)]; exact p4.1
  refine X_putfield (pc := 42) dX6_init_42 fp_X6_23_4 (fun _ => rfl) hbq4 rfl rfl (Nat.le_of_ble_eq_true rfl) ?_
  generalize hset (hset h4 q4 _) b _ = h5 at p5 ⊢
  generalize up c4 4 q4 = c5 at p5
  refine X_aload_n (pc := 45) 0 dX6_init_45 rfl rfl ?_
  refine X_aload_n (pc := 46) 0 dX6_init_46 rfl rfl ?_
  refine X_getfield (pc := 47) dX6_init_47 fg_X6_7_4 p5.1 (by first | rfl | assumption) ?_
  refine X_iconst (pc := 50) (x := 2) dX6_init_50 (by decide) ?_
  refine X_iadd (pc := 51) dX6_init_51 ?_
  rw [show nI (n + 1) + 2 = nI (n + 1 + 2) from nI_add _ 2]
  refine X_new_int (n + 1 + 2) (pc := 52) dX6_init_52 rfl (by omega) (by dsimp only; omega) (by dsimp only; omega) (fun q5 hq5 => ?_)
  have p6 := p5.step (by decide) hq5 rfl
  rw [show zM (n + 1) 5 = Ai false 0 (n + 1 + 2) (fun _ => 0) from rfl] at p6
  have hbq5 : hset h5 q5 (Ai false 0 (n + 1 + 2) fun _ => 0) b = some (Ob 4 (fsM c5 (n + 1) a 5 0)) := by rw [hset_ne (fun e => by rw [← e, p5.1] at hq5; cases hq5)]; exact p5.1
  refine X_putfield (pc := 54) dX6_init_54 fp_X6_26_4 (fun _ => rfl) hbq5 rfl rfl (Nat.le_of_ble_eq_true rfl) ?_
  generalize hset (hset h5 q5 _) b _ = h6 at p6 ⊢
  generalize up c5 5 q5 = c6 at p6
  refine X_aload_n (pc := 57) 0 dX6_init_57 rfl rfl ?_
  refine X_aload_n (pc := 58) 0 dX6_init_58 rfl rfl ?_
  refine X_getfield (pc := 59) dX6_init_59 fg_X6_7_4 p6.1 (by first | rfl | assumption) ?_
  refine X_new_int (n + 1) (pc := 62) dX6_init_62 rfl (by omega) (by dsimp only; omega) (by dsimp only; omega) (fun q6 hq6 => ?_)
  have p7 := p6.step (by decide) hq6 rfl
  rw [show zM (n + 1) 6 = Ai false 0 (n + 1) (fun _ => 0) from rfl] at p7
  have hbq6 : hset h6 q6 (Ai false 0 (n + 1) fun _ => 0) b = some (Ob 4 (fsM c6 (n + 1) a 6 0)) := by rw [hset_ne (fun e => by rw [← e, p6.1] at hq6; cases hq6)]; exact p6.1
  refine X_putfield (pc := 64) dX6_init_64 fp_X6_29_4 (fun _ => rfl) hbq6 rfl rfl (Nat.le_of_ble_eq_true rfl) ?_
  generalize hset (hset h6 q6 _) b _ = h7 at p7 ⊢
  generalize up c6 6 q6 = c7 at p7
  refine X_aload_n (pc := 67) 0 dX6_init_67 rfl rfl ?_
  refine X_aload_n (pc := 68) 0 dX6_init_68 rfl rfl ?_
  refine X_getfield (pc := 69) dX6_init_69 fg_X6_7_4 p7.1 (by first | rfl | assumption) ?_
  refine X_new_int (n + 1) (pc := 72) dX6_init_72 rfl (by omega) (by dsimp only; omega) (by dsimp only; omega) (fun q7 hq7 => ?_)
  have p8 := p7.step (by decide) hq7 rfl
  rw [show zM (n + 1) 7 = Ai false 0 (n + 1) (fun _ => 0) from rfl] at p8
  have hbq7 : hset h7 q7 (Ai false 0 (n + 1) fun _ => 0) b = some (Ob 4 (fsM c7 (n + 1) a 7 0)) := by rw [hset_ne (fun e => by rw [← e, p7.1] at hq7; cases hq7)]; exact p7.1
  refine X_putfield (pc := 74) dX6_init_74 fp_X6_32_4 (fun _ => rfl) hbq7 rfl rfl (Nat.le_of_ble_eq_true rfl) ?_
  generalize hset (hset h7 q7 _) b _ = h8 at p8 ⊢
  generalize up c7 7 q7 = c8 at p8
  refine X_aload_n (pc := 77) 0 dX6_init_77 rfl rfl ?_
  refine X_aload_n (pc := 78) 0 dX6_init_78 rfl rfl ?_
  refine X_getfield (pc := 79) dX6_init_79 fg_X6_7_4 p8.1 (by first | rfl | assumption) ?_
  refine X_new_int (n + 1) (pc := 82) dX6_init_82 rfl (by omega) (by dsimp only; omega) (by dsimp only; omega) (fun q8 hq8 => ?_)
  have p9 := p8.step (by decide) hq8 rfl
  rw [show zM (n + 1) 8 = Ai false 0 (n + 1) (fun _ => 0) from rfl] at p9
  have hbq8 : hset h8 q8 (Ai false 0 (n + 1) fun _ => 0) b = some (Ob 4 (fsM c8 (n + 1) a 8 0)) := by rw [hset_ne (fun e => by rw [← e, p8.1] at hq8; cases hq8)]; exact p8.1
  refine X_putfield (pc := 84) dX6_init_84 fp_X6_35_4 (fun _ => rfl) hbq8 rfl rfl (Nat.le_of_ble_eq_true rfl) ?_
  generalize hset (hset h8 q8 _) b _ = h9 at p9 ⊢
  generalize up c8 8 q8 = c9 at p9
  refine X_aload_n (pc := 87) 0 dX6_init_87 rfl rfl ?_
  refine X_aload_n (pc := 88) 0 dX6_init_88 rfl rfl ?_
  refine X_getfield (pc := 89) dX6_init_89 fg_X6_7_4 p9.1 (by first | rfl | assumption) ?_
  refine X_new_int (n + 1) (pc := 92) dX6_init_92 rfl (by omega) (by dsimp only; omega) (by dsimp only; omega) (fun q9 hq9 => ?_)
  have p10 := p9.step (by decide) hq9 rfl
  rw [show zM (n + 1) 9 = Ai false 0 (n + 1) (fun _ => 0) from rfl] at p10
  have hbq9 : hset h9 q9 (Ai false 0 (n + 1) fun _ => 0) b = some (Ob 4 (fsM c9 (n + 1) a 9 0)) := by rw [hset_ne (fun e => by rw [← e, p9.1] at hq9; cases hq9)]; exact p9.1
  refine X_putfield (pc := 94) dX6_init_94 fp_X6_38_4 (fun _ => rfl) hbq9 rfl rfl (Nat.le_of_ble_eq_true rfl) ?_
  generalize hset (hset h9 q9 _) b _ = h10 at p10 ⊢
  generalize up c9 9 q9 = c10 at p10
  refine XX.wide (k' := 8) (n' := 520) (by omega) (by omega) ?_
  obtain ⟨pb, pc, pi, px⟩ := p10
  have na : ∀ i, 2 ≤ i → i < 10 → c10 i ≠ a := fun i h1 h2 z => by have := (pc i h1 h2).1; rw [z, ha] at this; cases this
  have hma : h10 a = some (Ai false 0 (n + 1) fm) := by rw [px a ab na]; exact ha
  obtain ⟨tm, hlow⟩ := V_low0 (n := n) (f := fm)
  rw [hV] at hlow
  have m0 : u32 (fm 0) % 2 = 1 := by
    have : (2 : Nat) ^ 32 = 2 * 2 ^ 31 := by decide
    omega
  have hfs : fsM c10 (n + 1) a 10 0 = [.int (nI (n + 1)), .ref a, .ref (c10 2), .ref (c10 3), .ref (c10 4), .ref (c10 5), .ref (c10 6), .ref (c10 7), .ref (c10 8), .ref (c10 9), .int 0] := rfl
  rw [hfs] at pb
  -- behind the number
  have tail : ∀ i : Int32, (∃ s : Int, (u32 (fm 0) : Int) * u32 i - 1 = 2 ^ 32 * s) → XX g MX6_init ({ frames := 4, cells := 8, slots := 520, locals := 88 } : Room) Q 8 520 122 [(3, .int (nI 5)), (2, .int i), (0, .ref b), (1, .ref a)] [] h10 := by
    intro i hi
    have hng := ng_end hi hlow
    refine X_aload_n (pc := 122) 2 dX6_init_122 rfl rfl ?_
    refine X_iload_n (pc := 123) 1 dX6_init_123 rfl rfl ?_
    refine X_ineg (pc := 124) dX6_init_124 ?_
    refine X_putfield (pc := 125) dX6_init_125 fp_X6_41_4 (fun _ => rfl) pb rfl rfl (Nat.le_of_ble_eq_true rfl) ?_
    rw [show ([Value.int (nI (n + 1)), .ref a, .ref (c10 2), .ref (c10 3), .ref (c10 4), .ref (c10 5), .ref (c10 6), .ref (c10 7), .ref (c10 8), .ref (c10 9), .int 0].set 10 (.int (-i))) = [.int (nI (n + 1)), .ref a, .ref (c10 2), .ref (c10 3), .ref (c10 4), .ref (c10 5), .ref (c10 6), .ref (c10 7), .ref (c10 8), .ref (c10 9), .int (-i)] from rfl]
    generalize hng' : -i = ng at *
    have n32 : c10 3 ≠ c10 2 := fun e => absurd (pi 3 2 (by decide) (by decide) (by decide) (by decide) e) (by decide)
    have n42 : c10 4 ≠ c10 2 := fun e => absurd (pi 4 2 (by decide) (by decide) (by decide) (by decide) e) (by decide)
    have n43 : c10 4 ≠ c10 3 := fun e => absurd (pi 4 3 (by decide) (by decide) (by decide) (by decide) e) (by decide)
    have nb : ∀ i, 2 ≤ i → i < 10 → c10 i ≠ b := fun i h1 h2 => (pc i h1 h2).2.1
    generalize hH : hset h10 b (Ob 4 [.int (nI (n + 1)), .ref a, .ref (c10 2), .ref (c10 3), .ref (c10 4), .ref (c10 5), .ref (c10 6), .ref (c10 7), .ref (c10 8), .ref (c10 9), .int ng]) = H
    have Hb : H b = some (Ob 4 [.int (nI (n + 1)), .ref a, .ref (c10 2), .ref (c10 3), .ref (c10 4), .ref (c10 5), .ref (c10 6), .ref (c10 7), .ref (c10 8), .ref (c10 9), .int ng]) := by rw [← hH, hset_self]
    have Ho : ∀ x, x ≠ b → H x = h10 x := fun x hx => by rw [← hH, hset_ne hx]
    have Hm : H a = some (Ai false 0 (n + 1) fm) := by rw [Ho a ab]; exact hma
    have Hz : ∀ i, 2 ≤ i → i < 10 → H (c10 i) = some (zM (n + 1) i) := fun i h1 h2 => by rw [Ho _ (nb i h1 h2)]; exact (pc i h1 h2).2.2
    have b0 : vp_in (0 : Int32) (n + 1) := vp_in_nI (n := 0) (by omega) (by omega)
    refine X_aload_n (pc := 128) 2 dX6_init_128 rfl rfl ?_
    refine X_getfield (pc := 129) dX6_init_129 fg_X6_23_4 Hb (by first | rfl | assumption) ?_
    refine X_iconst (pc := 132) (x := 0) dX6_init_132 (by decide) ?_
    refine X_iconst (pc := 133) (x := 1) dX6_init_133 (by decide) ?_
    refine X_iastore (pc := 134) dX6_init_134 (Hz 4 (by decide) (by decide)) b0 ?_
    rw [show ((0 : Int32).toNatClampNeg) = 0 from rfl]
    generalize hH4 : hset H (c10 4) _ = H4
    have H4u : H4 (c10 4) = some (Ai false 0 (n + 1) (upd (fun _ => 0) 0 1)) := by rw [← hH4, hset_self]; rfl
    have H4o : ∀ x, x ≠ c10 4 → H4 x = H x := fun x hx => by rw [← hH4, hset_ne hx]
    have H4b : H4 b = some (Ob 4 [.int (nI (n + 1)), .ref a, .ref (c10 2), .ref (c10 3), .ref (c10 4), .ref (c10 5), .ref (c10 6), .ref (c10 7), .ref (c10 8), .ref (c10 9), .int ng]) := by rw [H4o b (fun e => nb 4 (by decide) (by decide) e.symm)]; exact Hb
    have H43 : H4 (c10 3) = some (Ai false 0 (n + 1) fun _ => 0) := by rw [H4o _ (fun e => n43 e.symm)]; exact Hz 3 (by decide) (by decide)
    have H42 : H4 (c10 2) = some (Ai false 0 (n + 1) fun _ => 0) := by rw [H4o _ (fun e => n42 e.symm)]; exact Hz 2 (by decide) (by decide)
    have H4m : H4 a = some (Ai false 0 (n + 1) fm) := by rw [H4o a (fun e => na 4 (by decide) (by decide) e.symm)]; exact Hm
    refine X_aload_n (pc := 135) 2 dX6_init_135 rfl rfl ?_
    refine X_getfield (pc := 136) dX6_init_136 fg_X6_23_4 H4b (by first | rfl | assumption) ?_
    refine X_aload_n (pc := 139) 2 dX6_init_139 rfl rfl ?_
    refine X_getfield (pc := 140) dX6_init_140 fg_X6_20_4 H4b (by first | rfl | assumption) ?_
    refine X_isv (pc := 143) _ dX6_init_143 cs_X6_44 rfl (copy_ok g H4u H43 (Nat.le_refl _) (by omega)) nX6_copy (Nat.le_of_ble_eq_true rfl) (Nat.le_of_ble_eq_true rfl) (Nat.le_of_ble_eq_true rfl) (Nat.le_of_ble_eq_true rfl) (fun h5 q5 => ?_)
    subst q5
    have loop : ∀ m k, k + m = 64 * (n + 1) → ∀ f f2 : Nat → Int32, V (n + 1) f = 2 ^ k % mv → (32 * (n + 1) ≤ k → V (n + 1) f2 = 2 ^ (32 * (n + 1)) % mv) →
        XX g MX6_init ({ frames := 4, cells := 8, slots := 520, locals := 88 } : Room) Q 8 520 148 [(3, .int (nI k)), (2, .int i), (0, .ref b), (1, .ref a)] [] (hset (hset H4 (c10 3) (Ai false 0 (n + 1) f)) (c10 2) (Ai false 0 (n + 1) f2)) := by
      intro m
      induction m with
      | zero =>
        intro k hk f f2 hf hf2
        have e : k = 64 * (n + 1) := by omega
        subst e
        generalize hH5 : hset (hset H4 (c10 3) (Ai false 0 (n + 1) f)) (c10 2) (Ai false 0 (n + 1) f2) = H5
        have H5o : ∀ x, x ≠ c10 2 → x ≠ c10 3 → H5 x = H4 x := fun x h2 h3 => by rw [← hH5, hset_ne h2, hset_ne h3]
        have H5b : H5 b = some (Ob 4 [.int (nI (n + 1)), .ref a, .ref (c10 2), .ref (c10 3), .ref (c10 4), .ref (c10 5), .ref (c10 6), .ref (c10 7), .ref (c10 8), .ref (c10 9), .int ng]) := by rw [H5o b (fun e => nb 2 (by decide) (by decide) e.symm) (fun e => nb 3 (by decide) (by decide) e.symm)]; exact H4b
        have H52 : H5 (c10 2) = some (Ai false 0 (n + 1) f2) := by rw [← hH5, hset_self]
        have H53 : H5 (c10 3) = some (Ai false 0 (n + 1) f) := by rw [← hH5, hset_ne n32, hset_self]
        have H54 : H5 (c10 4) = some (Ai false 0 (n + 1) (upd (fun _ => 0) 0 1)) := by rw [H5o _ n42 n43]; exact H4u
        have H5m : H5 a = some (Ai false 0 (n + 1) fm) := by rw [H5o a (fun e => na 2 (by decide) (by decide) e.symm) (fun e => na 3 (by decide) (by decide) e.symm)]; exact H4m
        refine X_iload_n (pc := 148) 0 dX6_init_148 rfl rfl ?_
        refine X_bipush (pc := 149) (x := 64) dX6_init_149 (by decide) ?_
        refine X_aload_n (pc := 151) 2 dX6_init_151 rfl rfl ?_
        refine X_getfield (pc := 152) dX6_init_152 fg_X6_7_4 H5b (by first | rfl | assumption) ?_
        refine X_imul (pc := 155) dX6_init_155 ?_
        rw [show (64 : Int32) * nI (n + 1) = nI (64 * (n + 1)) from pk_mul 64 _]
        refine X_cge (pc := 156) 205 dX6_init_156 (by decide) (by omega) (by omega) (fun _ => ?_) (fun c => absurd c (by omega))
        refine XX.arI (AiE.set H52 (hf2 (by omega))) ?_
        refine XX.arI (AiE.set (a := c10 3) (f := f) (by rw [hset_ne n32]; exact H53) hf) ?_
        refine XX.arI (AiE.set (a := c10 4) (f := upd (fun _ => 0) 0 1) (by rw [hset_ne n43, hset_ne n42]; exact H54) V_one) ?_
        refine XX.arI (AiE.set (a := a) (f := fm) (by rw [hset_ne (fun e => na 4 (by decide) (by decide) e.symm), hset_ne (fun e => na 3 (by decide) (by decide) e.symm), hset_ne (fun e => na 2 (by decide) (by decide) e.symm)]; exact H5m) hV) ?_
        subst hQ
        refine X_return (pc := 205) dX6_init_205 rfl (Nat.le_of_ble_eq_true rfl) (Nat.le_of_ble_eq_true rfl) ?_
        refine ⟨rfl, up c10 1 a, ng, up_same _ _ _, fun i h1 h2 => ?_, fun i j h1 h2 h3 h4 e => ?_, ?_, hng, hset_self _ _ _, ?_, ?_, ?_, fun i h1 h2 => ?_, fun x xa xb hc => ?_⟩
        · rw [up_ne (by omega)]
          exact ⟨(pc i h1 h2).1, nb i h1 h2⟩
        · rw [up_ne (by omega), up_ne (by omega)] at e
          exact pi i j h1 h2 h3 h4 e
        · rw [hset_ne ab.symm, hset_ne (fun e => nb 4 (by decide) (by decide) e.symm), hset_ne (fun e => nb 3 (by decide) (by decide) e.symm), hset_ne (fun e => nb 2 (by decide) (by decide) e.symm), H5b]
          rfl
        · show hset _ _ _ (c10 2) = _
          rw [hset_ne (na 2 (by decide) (by decide)), hset_ne (fun e => n42 e.symm), hset_ne (fun e => n32 e.symm), hset_self]
        · show hset _ _ _ (c10 3) = _
          rw [hset_ne (na 3 (by decide) (by decide)), hset_ne (fun e => n43 e.symm), hset_self, show 64 * (n + 1) = 32 * (n + 1) + 32 * (n + 1) by omega, Nat.pow_add]
        · show hset _ _ _ (c10 4) = _
          rw [hset_ne (na 4 (by decide) (by decide)), hset_self]
        · rw [up_ne (by omega)]
          have e2 : c10 i ≠ c10 2 := fun e => absurd (pi i 2 (by omega) h2 (by decide) (by decide) e) (by omega)
          have e3 : c10 i ≠ c10 3 := fun e => absurd (pi i 3 (by omega) h2 (by decide) (by decide) e) (by omega)
          have e4 : c10 i ≠ c10 4 := fun e => absurd (pi i 4 (by omega) h2 (by decide) (by decide) e) (by omega)
          rw [hset_ne (na i (by omega) h2), hset_ne e4, hset_ne e3, hset_ne e2, H5o _ e2 e3, H4o _ e4]
          exact Hz i (by omega) h2
        · have hc' : ∀ i, 2 ≤ i → i < 10 → c10 i ≠ x := fun i h1 h2 => by have := hc i h1 h2; rw [up_ne (by omega)] at this; exact this
          have e2 := fun e => hc' 2 (by decide) (by decide) (Eq.symm e)
          have e3 := fun e => hc' 3 (by decide) (by decide) (Eq.symm e)
          have e4 := fun e => hc' 4 (by decide) (by decide) (Eq.symm e)
          rw [hset_ne xa, hset_ne e4, hset_ne e3, hset_ne e2, H5o _ e2 e3, H4o _ e4, Ho x xb]
          exact px x xb hc'
      | succ m ih =>
        intro k hk f f2 hf hf2
        generalize hH5 : hset (hset H4 (c10 3) (Ai false 0 (n + 1) f)) (c10 2) (Ai false 0 (n + 1) f2) = H5
        have H5o : ∀ x, x ≠ c10 2 → x ≠ c10 3 → H5 x = H4 x := fun x h2 h3 => by rw [← hH5, hset_ne h2, hset_ne h3]
        have H5b : H5 b = some (Ob 4 [.int (nI (n + 1)), .ref a, .ref (c10 2), .ref (c10 3), .ref (c10 4), .ref (c10 5), .ref (c10 6), .ref (c10 7), .ref (c10 8), .ref (c10 9), .int ng]) := by rw [H5o b (fun e => nb 2 (by decide) (by decide) e.symm) (fun e => nb 3 (by decide) (by decide) e.symm)]; exact H4b
        have H52 : H5 (c10 2) = some (Ai false 0 (n + 1) f2) := by rw [← hH5, hset_self]
        have H53 : H5 (c10 3) = some (Ai false 0 (n + 1) f) := by rw [← hH5, hset_ne n32, hset_self]
        have H5m : H5 a = some (Ai false 0 (n + 1) fm) := by rw [H5o a (fun e => na 2 (by decide) (by decide) e.symm) (fun e => na 3 (by decide) (by decide) e.symm)]; exact H4m
        have hfl : V (n + 1) f < V (n + 1) fm := by rw [hf, hV]; exact Nat.mod_lt _ (by omega)
        refine X_iload_n (pc := 148) 0 dX6_init_148 rfl rfl ?_
        refine X_bipush (pc := 149) (x := 64) dX6_init_149 (by decide) ?_
        refine X_aload_n (pc := 151) 2 dX6_init_151 rfl rfl ?_
        refine X_getfield (pc := 152) dX6_init_152 fg_X6_7_4 H5b (by first | rfl | assumption) ?_
        refine X_imul (pc := 155) dX6_init_155 ?_
        rw [show (64 : Int32) * nI (n + 1) = nI (64 * (n + 1)) from pk_mul 64 _]
        refine X_cge (pc := 156) 205 dX6_init_156 (by decide) (by omega) (by omega) (fun c => absurd c (by omega)) (fun _ => ?_)
        refine X_aload_n (pc := 159) 2 dX6_init_159 rfl rfl ?_
        refine X_aload_n (pc := 160) 2 dX6_init_160 rfl rfl ?_
        refine X_getfield (pc := 161) dX6_init_161 fg_X6_20_4 H5b (by first | rfl | assumption) ?_
        refine X_aload_n (pc := 164) 2 dX6_init_164 rfl rfl ?_
        refine X_getfield (pc := 165) dX6_init_165 fg_X6_20_4 H5b (by first | rfl | assumption) ?_
        refine X_aload_n (pc := 168) 2 dX6_init_168 rfl rfl ?_
        refine X_getfield (pc := 169) dX6_init_169 fg_X6_20_4 H5b (by first | rfl | assumption) ?_
        refine X_ivv (pc := 172) _ dX6_init_172 cv_X6_48_4 H5b rfl (xadd_ok g H5b rfl H5m H53 H53 H53 (fun e => na 3 (by decide) (by decide) e.symm) hfl hfl (by omega)) nX6_add (Nat.le_of_ble_eq_true rfl) (Nat.le_of_ble_eq_true rfl) (Nat.le_of_ble_eq_true rfl) (Nat.le_of_ble_eq_true rfl) (fun h6 q6 => ?_)
        obtain ⟨f6, v6, rfl⟩ := q6
        have hv6 : V (n + 1) f6 = 2 ^ (k + 1) % mv := by
          rw [v6, hf, hV, ← Nat.add_mod, Nat.pow_succ]
          congr 1
          omega
        have e6 : hset H5 (c10 3) (Ai false 0 (n + 1) f6) = hset (hset H4 (c10 3) (Ai false 0 (n + 1) f6)) (c10 2) (Ai false 0 (n + 1) f2) := by
          rw [← hH5, hset_comm _ _ _ n32.symm, hset_hset]
        rw [e6]
        have c6b : hset (hset H4 (c10 3) (Ai false 0 (n + 1) f6)) (c10 2) (Ai false 0 (n + 1) f2) b = some (Ob 4 [.int (nI (n + 1)), .ref a, .ref (c10 2), .ref (c10 3), .ref (c10 4), .ref (c10 5), .ref (c10 6), .ref (c10 7), .ref (c10 8), .ref (c10 9), .int ng]) := by rw [hset_ne (fun e => nb 2 (by decide) (by decide) e.symm), hset_ne (fun e => nb 3 (by decide) (by decide) e.symm)]; exact H4b
        have c62 : hset (hset H4 (c10 3) (Ai false 0 (n + 1) f6)) (c10 2) (Ai false 0 (n + 1) f2) (c10 2) = some (Ai false 0 (n + 1) f2) := hset_self _ _ _
        have c63 : hset (hset H4 (c10 3) (Ai false 0 (n + 1) f6)) (c10 2) (Ai false 0 (n + 1) f2) (c10 3) = some (Ai false 0 (n + 1) f6) := by rw [hset_ne n32, hset_self]
        refine X_iload_n (pc := 175) 0 dX6_init_175 rfl rfl ?_
        refine X_bipush (pc := 176) (x := 32) dX6_init_176 (by decide) ?_
        refine X_aload_n (pc := 178) 2 dX6_init_178 rfl rfl ?_
        refine X_getfield (pc := 179) dX6_init_179 fg_X6_7_4 c6b (by first | rfl | assumption) ?_
        refine X_imul (pc := 182) dX6_init_182 ?_
        rw [show (32 : Int32) * nI (n + 1) = nI (32 * (n + 1)) from pk_mul 32 _]
        refine X_iconst (pc := 183) (x := 1) dX6_init_183 (by decide) ?_
        refine X_isub (pc := 184) dX6_init_184 ?_
        rw [show nI (32 * (n + 1)) - 1 = nI (32 * (n + 1) - 1) by rw [show 32 * (n + 1) = 32 * (n + 1) - 1 + 1 by omega, nI_pred, Nat.add_sub_cancel]]
        have c6b' := c6b
        by_cases ck : k = 32 * (n + 1) - 1
        · refine X_icmp_ne (pc := 185) 199 dX6_init_185 (by decide) (fun z => absurd (by rw [ck]) z) (fun _ => ?_)
          refine X_aload_n (pc := 188) 2 dX6_init_188 rfl rfl ?_
          refine X_getfield (pc := 189) dX6_init_189 fg_X6_20_4 c6b (by first | rfl | assumption) ?_
          refine X_aload_n (pc := 192) 2 dX6_init_192 rfl rfl ?_
          refine X_getfield (pc := 193) dX6_init_193 fg_X6_17_4 c6b (by first | rfl | assumption) ?_
          refine X_isv (pc := 196) _ dX6_init_196 cs_X6_44 rfl (copy_ok g c63 c62 (Nat.le_refl _) (by omega)) nX6_copy (Nat.le_of_ble_eq_true rfl) (Nat.le_of_ble_eq_true rfl) (Nat.le_of_ble_eq_true rfl) (Nat.le_of_ble_eq_true rfl) (fun h7 q7 => ?_)
          subst q7
          rw [hset_hset]
          refine X_iinc (pc := 199) (L' := [(3, .int (_ + 1)), (2, .int _), (0, .ref _), (1, .ref _)]) 0 dX6_init_199 rfl rfl (Nat.le_of_ble_eq_true rfl) rfl ?_
          refine X_goto (pc := 202) 148 dX6_init_202 (by decide) ?_
          rw [show nI k + 1 = nI (k + 1) from nI_add k 1]
          refine ih (k + 1) (by omega) f6 _ hv6 (fun _ => ?_)
          rw [V_cpy, hv6, ck, show 32 * (n + 1) - 1 + 1 = 32 * (n + 1) by omega]
        · refine X_icmp_ne (pc := 185) 199 dX6_init_185 (by decide) (fun _ => ?_) (fun z => absurd (nI_inj' (by omega) (by omega) z) ck)
          refine X_iinc (pc := 199) (L' := [(3, .int (_ + 1)), (2, .int _), (0, .ref _), (1, .ref _)]) 0 dX6_init_199 rfl rfl (Nat.le_of_ble_eq_true rfl) rfl ?_
          refine X_goto (pc := 202) 148 dX6_init_202 (by decide) ?_
          rw [show nI k + 1 = nI (k + 1) from nI_add k 1]
          exact ih (k + 1) (by omega) f6 f2 hv6 (fun z => hf2 (by omega))
    refine X_iconst (pc := 146) (x := 0) dX6_init_146 (by decide) ?_
    refine X_istore_n (pc := 147) (L' := [(3, .int _), (2, .int _), (0, .ref _), (1, .ref _)]) dX6_init_147 rfl (Nat.le_of_ble_eq_true rfl) rfl ?_
    refine XX.pick (L' := [(3, .int _), (2, .int _), (0, .ref _), (1, .ref _)]) [0, 1, 2, 3] rfl ?_
    have h3 := loop (64 * (n + 1)) 0 (by omega) (va_cpy (upd (fun _ => 0) 0 1) (fun _ => 0) 0 0 (n + 1)) (fun _ => 0) (by rw [V_cpy, V_one, Nat.pow_zero, Nat.mod_eq_of_lt hbig]) (fun z => absurd z (by omega))
    rw [hset_same (h := hset H4 (c10 3) _) (a := c10 2) (by rw [hset_ne n32.symm]; exact H42)] at h3
    exact h3
  have loop0 : ∀ m k, k + m = 5 → ∀ i : Int32, (∃ s : Int, (u32 (fm 0) : Int) * u32 i - 1 = 2 ^ (2 ^ k) * s) → XX g MX6_init ({ frames := 4, cells := 8, slots := 520, locals := 88 } : Room) Q 8 520 101 [(3, .int (nI k)), (2, .int i), (0, .ref b), (1, .ref a)] [] h10 := by
    intro m
    induction m with
    | zero =>
      intro k hk i hi
      have e : k = 5 := by omega
      subst e
      refine X_iload_n (pc := 101) 0 dX6_init_101 rfl rfl ?_
      refine X_iconst (pc := 102) (x := 5) dX6_init_102 (by decide) ?_
      refine X_cge (a := 5) (b := 5) (pc := 103) 122 dX6_init_103 (by decide) (by omega) (by omega) (fun _ => ?_) (fun c => absurd c (by omega))
      exact tail i hi
    | succ m ih =>
      intro k hk i hi
      have b0 : vp_in (0 : Int32) (n + 1) := vp_in_nI (n := 0) (by omega) (by omega)
      refine X_iload_n (pc := 101) 0 dX6_init_101 rfl rfl ?_
      refine X_iconst (pc := 102) (x := 5) dX6_init_102 (by decide) ?_
      refine X_cge (b := 5) (pc := 103) 122 dX6_init_103 (by decide) (by omega) (by omega) (fun c => absurd c (by omega)) (fun _ => ?_)
      refine X_iload_n (pc := 106) 1 dX6_init_106 rfl rfl ?_
      refine X_iconst (pc := 107) (x := 2) dX6_init_107 (by decide) ?_
      refine X_aload_n (pc := 108) 3 dX6_init_108 rfl rfl ?_
      refine X_iconst (pc := 109) (x := 0) dX6_init_109 (by decide) ?_
      refine X_iaload (pc := 110) dX6_init_110 hma b0 ?_
      refine X_iload_n (pc := 111) 1 dX6_init_111 rfl rfl ?_
      refine X_imul (pc := 112) dX6_init_112 ?_
      refine X_isub (pc := 113) dX6_init_113 ?_
      refine X_imul (pc := 114) dX6_init_114 ?_
      refine X_istore_n (pc := 115) (L' := [(2, .int _), (3, .int _), (0, .ref _), (1, .ref _)]) dX6_init_115 rfl (Nat.le_of_ble_eq_true rfl) rfl ?_
      refine X_iinc (pc := 116) (L' := [(3, .int (_ + 1)), (2, .int _), (0, .ref _), (1, .ref _)]) 1 dX6_init_116 rfl rfl (Nat.le_of_ble_eq_true rfl) rfl ?_
      refine X_goto (pc := 119) 101 dX6_init_119 (by decide) ?_
      rw [show ((0 : Int32).toNatClampNeg) = 0 from rfl, show nI k + 1 = nI (k + 1) from nI_add k 1]
      refine XX.pick (L' := [(3, .int _), (2, .int _), (0, .ref _), (1, .ref _)]) [0, 1, 2, 3] rfl ?_
      refine ih (k + 1) (by omega) _ ?_
      rw [Nat.pow_succ, Nat.mul_comm (2 ^ k)]
      exact ng_step (by have : k = 0 ∨ k = 1 ∨ k = 2 ∨ k = 3 ∨ k = 4 := by omega
                        rcases this with rfl | rfl | rfl | rfl | rfl <;> decide) hi
  refine X_iconst (pc := 97) (x := 1) dX6_init_97 (by decide) ?_
  refine X_istore_n (pc := 98) (L' := [(2, .int _), (0, .ref _), (1, .ref _)]) dX6_init_98 rfl (Nat.le_of_ble_eq_true rfl) rfl ?_
  refine X_iconst (pc := 99) (x := 0) dX6_init_99 (by decide) ?_
  refine X_istore_n (pc := 100) (L' := [(3, .int _), (2, .int _), (0, .ref _), (1, .ref _)]) dX6_init_100 rfl (Nat.le_of_ble_eq_true rfl) rfl ?_
  refine loop0 5 0 (by omega) 1 ⟨((u32 (fm 0) / 2 : Nat) : Int), ?_⟩
  show (u32 (fm 0) : Int) * ((1 : Nat) : Int) - 1 = 2 ^ 1 * _
  omega
end XMi
