set_option maxRecDepth 100000
def OpP (A : Nat → Nat) (h : AH) (a v : Nat) : Prop := OpM A h a 12 v ∧ v < pP
section MO2
variable {A : Nat → Nat} {X : AH} {R : Nat → Nat} {I : Nat → Nat → Int32} {S : Nat → List Int32} {F : Nat → Int32} {h : AH}
theorem OpP.n (w : MW A X R I S F h) (k : Nat) (hk : kdM k = (1, 0, 12)) : OpP A h (A k) (R k) := ⟨OpM.n w k hk, by obtain ⟨f, -, -, h3⟩ := w.n k hk; exact h3⟩
theorem OpP.n2 (w : MW A X R I S F h) (k : Nat) (hk : kdM k = (2, 0, 12)) (hb : R k < pP) : OpP A h (A k) (R k) := ⟨OpM.n2 w k hk, hb⟩
theorem V_tB : V 12 (fun j => tB.getD j 0) = bP := by decide +kernel
theorem V_tQ : V 12 (fun j => tQ.getD j 0) = qP := by decide +kernel
theorem bP_lt : bP < pP := by decide +kernel
theorem OpP.B (w : MW A X R I S F h) {a : Nat} (ha : h a = some (Ai true 0 12 fun j => tB.getD j 0)) : OpP A h a bP := ⟨V_tB ▸ OpM.st w ha (by decide), bP_lt⟩
theorem mo0 {I : Nat → Nat → Int32} {F : Nat → Int32} : MoS I F 0 12 pP := Or.inl ⟨rfl, rfl, rfl⟩
theorem mo1 {I : Nat → Nat → Int32} {F : Nat → Int32} : MoS I F 1 12 qP := Or.inr (Or.inl ⟨rfl, rfl, rfl⟩)
def rMul (k a b : Nat) (R : Nat → Nat) : Nat → Nat := up R k (R a * R b % pP)
def rAdd (k a b : Nat) (R : Nat → Nat) : Nat → Nat := up R k ((R a + R b) % pP)
def rSub (k a b : Nat) (R : Nat → Nat) : Nat → Nat := up R k (sbN pP (R a) (R b))
def rCp (k a : Nat) (R : Nat → Nat) : Nat → Nat := up R k (R a)
def rSet (k v : Nat) (R : Nat → Nat) : Nat → Nat := up R k v
/-- times under p, to a field number -/
theorem mtP (g : GX) (w : MW A X R I S F h) (k : Nat) (hk : kdM k = (1, 0, 12)) {a b va vb : Nat} (oa : OpM A h a 12 va) (ob : OpM A h b 12 vb) :
    MT g MX10_times ({ frames := 3, cells := 0, slots := 0, locals := 83 } : Room) [.ref (A 96), .ref (A 500), .ref a, .ref b, .ref (A k)] h (RV fun h' => MW A X (up R k (va * vb % pP)) I S F h') := by
  obtain ⟨f, h1, -, -⟩ := w.n k hk
  refine MT.mono (mtW g w mo0 oa ob h1 (w.sc (by rw [hk]; decide) (scr_k hk (by decide))).1.1 (Nat.le_refl _) (by decide)) (fun o h' q => ?_)
  obtain ⟨e, fw', F', f', -, hv, rfl⟩ := q
  exact ⟨e, ((w.setJ 1 rfl fw').setL 2 rfl F').setN k hk hv (Nat.mod_lt _ pP_pos)⟩
theorem mtPr (g : GX) (w : MW A X R I S F h) (k a b : Nat) (hk : kdM k = (1, 0, 12)) (ha : kdM a = (1, 0, 12)) (hb : kdM b = (1, 0, 12)) : MT g MX10_times ({ frames := 3, cells := 0, slots := 0, locals := 83 } : Room) [.ref (A 96), .ref (A 500), .ref (A a), .ref (A b), .ref (A k)] h (RV fun h' => MW A X (rMul k a b R) I S F h') :=
  mtP g w k hk (OpM.n w a ha) (OpM.n w b hb)
/-- times, to any number of 12 limbs -/
theorem mtN (g : GX) (w : MW A X R I S F h) {j mv : Nat} (hm : MoS I F j 12 mv) (k : Nat) (hk : kdM k = (2, 0, 12)) {a b va vb : Nat} (oa : OpM A h a 12 va) (ob : OpM A h b 12 vb) :
    MT g MX10_times ({ frames := 3, cells := 0, slots := 0, locals := 83 } : Room) [.ref (A 96), .ref (A (500 + j)), .ref a, .ref b, .ref (A k)] h (RV fun h' => MW A X (up R k (va * vb % mv)) I S F h') := by
  obtain ⟨f, h1, -⟩ := w.n2 k hk
  refine MT.mono (mtW g w hm oa ob h1 (w.sc (by rw [hk]; decide) (scr_k hk (by decide))).1.1 (Nat.le_refl _) (by decide)) (fun o h' q => ?_)
  obtain ⟨e, fw', F', f', -, hv, rfl⟩ := q
  exact ⟨e, ((w.setJ 1 rfl fw').setL 2 rfl F').setN2 k hk hv⟩
theorem mtI (g : GX) (w : MW A X R I S F h) {j n mv : Nat} (hm : MoS I F j n mv) (hn : n ≤ 64) (k : Nat) (hk : kdM k = (3, 0, 64)) {a b va vb : Nat} (oa : OpM A h a n va) (ob : OpM A h b n vb) :
    MT g MX10_times ({ frames := 3, cells := 0, slots := 0, locals := 83 } : Room) [.ref (A 96), .ref (A (500 + j)), .ref a, .ref b, .ref (A k)] h (RV fun h' => ∃ f, V n f = va * vb % mv ∧ MW A X R (up I k f) S F h') := by
  refine MT.mono (mtW g w hm oa ob (w.i k hk) (w.sc (by rw [hk]; decide) (scr_k hk (by decide))).1.1 hn (by decide)) (fun o h' q => ?_)
  obtain ⟨e, fw', F', f', -, hv, rfl⟩ := q
  exact ⟨e, f', hv, ((w.setJ 1 rfl fw').setL 2 rfl F').setI k hk f'⟩
/-- add, sub under p -/
theorem maP (g : GX) (w : MW A X R I S F h) (k : Nat) (hk : kdM k = (1, 0, 12)) {a b va vb : Nat} (oa : OpP A h a va) (ob : OpP A h b vb) :
    MT g MX10_add ({ frames := 2, cells := 0, slots := 0, locals := 46 } : Room) [.ref (A 500), .ref a, .ref b, .ref (A k)] h (RV fun h' => MW A X (up R k ((va + vb) % pP)) I S F h') := by
  obtain ⟨f, h1, -, -⟩ := w.n k hk
  obtain ⟨⟨ra, na, fa, a1, a2, a3, rfl, -, -⟩, hva⟩ := oa
  obtain ⟨⟨rb, nb, fb, b1, b2, b3, rfl, -, -⟩, hvb⟩ := ob
  have hp : V 12 (lim pP) = pP := V_lim12 pP_lt
  have hne : A 510 ≠ A k := w.ne (by decide) (by rw [hk]; decide) (fun e => by subst e; cases hk)
  refine MT.mono (mmadd_ok g (n := 12) (fm := lim pP) (w.o 500 rfl) (w.o 510 rfl) a1 b1 h1 hne ⟨by decide, a2, b2, Nat.le_refl _⟩ ⟨by decide, a3, b3, by decide⟩ (by rw [hp]; exact hva) (by rw [hp]; exact hvb)) (fun o h' q => ?_)
  obtain ⟨e, f', -, hv, rfl⟩ := q
  rw [hp] at hv
  exact ⟨e, w.setN k hk hv (Nat.mod_lt _ pP_pos)⟩
theorem maPr (g : GX) (w : MW A X R I S F h) (k a b : Nat) (hk : kdM k = (1, 0, 12)) (ha : kdM a = (1, 0, 12)) (hb : kdM b = (1, 0, 12)) : MT g MX10_add ({ frames := 2, cells := 0, slots := 0, locals := 46 } : Room) [.ref (A 500), .ref (A a), .ref (A b), .ref (A k)] h (RV fun h' => MW A X (rAdd k a b R) I S F h') :=
  maP g w k hk (OpP.n w a ha) (OpP.n w b hb)
theorem msP (g : GX) (w : MW A X R I S F h) (k : Nat) (hk : kdM k = (1, 0, 12)) {a b va vb : Nat} (oa : OpP A h a va) (ob : OpP A h b vb) :
    MT g MX10_sub ({ frames := 2, cells := 0, slots := 0, locals := 46 } : Room) [.ref (A 500), .ref a, .ref b, .ref (A k)] h (RV fun h' => MW A X (up R k (sbN pP va vb)) I S F h') := by
  obtain ⟨f, h1, -, -⟩ := w.n k hk
  obtain ⟨⟨ra, na, fa, a1, a2, a3, rfl, -, -⟩, hva⟩ := oa
  obtain ⟨⟨rb, nb, fb, b1, b2, b3, rfl, -, -⟩, hvb⟩ := ob
  have hp : V 12 (lim pP) = pP := V_lim12 pP_lt
  have hne : A 510 ≠ A k := w.ne (by decide) (by rw [hk]; decide) (fun e => by subst e; cases hk)
  refine MT.mono (mmsub_ok g (n := 12) (fm := lim pP) (w.o 500 rfl) (w.o 510 rfl) a1 b1 h1 hne ⟨by decide, a2, b2, Nat.le_refl _⟩ ⟨by decide, a3, b3, by decide⟩ (by rw [hp]; exact hva) (by rw [hp]; exact hvb)) (fun o h' q => ?_)
  obtain ⟨e, f', -, hv, rfl⟩ := q
  rw [hp] at hv
  exact ⟨e, w.setN k hk hv (Nat.mod_lt _ pP_pos)⟩
theorem msPr (g : GX) (w : MW A X R I S F h) (k a b : Nat) (hk : kdM k = (1, 0, 12)) (ha : kdM a = (1, 0, 12)) (hb : kdM b = (1, 0, 12)) : MT g MX10_sub ({ frames := 2, cells := 0, slots := 0, locals := 46 } : Room) [.ref (A 500), .ref (A a), .ref (A b), .ref (A k)] h (RV fun h' => MW A X (rSub k a b R) I S F h') :=
  msP g w k hk (OpP.n w a ha) (OpP.n w b hb)
/-- sub under q -/
theorem msQ (g : GX) (w : MW A X R I S F h) (k : Nat) (hk : kdM k = (2, 0, 12)) {a b va vb : Nat} (oa : OpM A h a 12 va) (ob : OpM A h b 12 vb) (hva : va < qP) (hvb : vb < qP) :
    MT g MX10_sub ({ frames := 2, cells := 0, slots := 0, locals := 46 } : Room) [.ref (A 501), .ref a, .ref b, .ref (A k)] h (RV fun h' => MW A X (up R k (sbN qP va vb)) I S F h') := by
  obtain ⟨f, h1, -⟩ := w.n2 k hk
  obtain ⟨ra, na, fa, a1, a2, a3, rfl, -, -⟩ := oa
  obtain ⟨rb, nb, fb, b1, b2, b3, rfl, -, -⟩ := ob
  have hp : V 12 (lim qP) = qP := V_lim12 qP_lt
  have hne : A 511 ≠ A k := w.ne (by decide) (by rw [hk]; decide) (fun e => by subst e; cases hk)
  refine MT.mono (mmsub_ok g (n := 12) (fm := lim qP) (w.o 501 rfl) (w.o 511 rfl) a1 b1 h1 hne ⟨by decide, a2, b2, Nat.le_refl _⟩ ⟨by decide, a3, b3, by decide⟩ (by rw [hp]; exact hva) (by rw [hp]; exact hvb)) (fun o h' q => ?_)
  obtain ⟨e, f', -, hv, rfl⟩ := q
  rw [hp] at hv
  exact ⟨e, w.setN2 k hk hv⟩
/-- compare, isZero, copy, small -/
theorem mcW (g : GX) {a b n va vb : Nat} (oa : OpM A h a n va) (ob : OpM A h b n vb) : MT g MX10_compare ({ frames := 1, cells := 0, slots := 0, locals := 20 } : Room) [.ref a, .ref b, .int (nI n)] h (RI fun r h' => r = cmpN va vb ∧ h' = h) := by
  obtain ⟨ra, na, fa, a1, a2, a3, rfl, -, -⟩ := oa
  obtain ⟨rb, nb, fb, b1, b2, b3, rfl, -, -⟩ := ob
  exact mcmp_ok g a1 b1 a2 b2 ⟨a3, b3⟩
theorem mzW (g : GX) {a n va : Nat} (oa : OpM A h a n va) : MT g MX10_isZero ({ frames := 0, cells := 0, slots := 0, locals := 0 } : Room) [.ref a, .int (nI n)] h (RI fun r h' => r = (if va = 0 then 1 else 0) ∧ h' = h) := by
  obtain ⟨ra, na, fa, a1, a2, a3, rfl, -, -⟩ := oa
  exact mzero_ok g a1 a2 a3
theorem mcpP (g : GX) (w : MW A X R I S F h) (k : Nat) (hk : kdM k = (1, 0, 12)) {a va : Nat} (oa : OpP A h a va) : MT g MX10_copy ({ frames := 0, cells := 0, slots := 0, locals := 0 } : Room) [.ref a, .ref (A k), .int 12] h (RV fun h' => MW A X (up R k va) I S F h') := by
  obtain ⟨f, h1, -, -⟩ := w.n k hk
  obtain ⟨⟨ra, na, fa, a1, a2, a3, rfl, -, -⟩, hva⟩ := oa
  refine MT.mono (mcopy_ok g (n := 12) a1 h1 a2 (Nat.le_refl _) ⟨a3, by decide⟩) (fun o h' q => ?_)
  obtain ⟨e, rfl⟩ := q
  exact ⟨e, w.setN k hk cpN_V hva⟩
theorem mcpPr (g : GX) (w : MW A X R I S F h) (k a : Nat) (hk : kdM k = (1, 0, 12)) (ha : kdM a = (1, 0, 12)) : MT g MX10_copy ({ frames := 0, cells := 0, slots := 0, locals := 0 } : Room) [.ref (A a), .ref (A k), .int 12] h (RV fun h' => MW A X (rCp k a R) I S F h') := mcpP g w k hk (OpP.n w a ha)
theorem mcpN (g : GX) (w : MW A X R I S F h) (k : Nat) (hk : kdM k = (2, 0, 12)) {a va : Nat} (oa : OpM A h a 12 va) : MT g MX10_copy ({ frames := 0, cells := 0, slots := 0, locals := 0 } : Room) [.ref a, .ref (A k), .int 12] h (RV fun h' => MW A X (up R k va) I S F h') := by
  obtain ⟨f, h1, -⟩ := w.n2 k hk
  obtain ⟨ra, na, fa, a1, a2, a3, rfl, -, -⟩ := oa
  refine MT.mono (mcopy_ok g (n := 12) a1 h1 a2 (Nat.le_refl _) ⟨a3, by decide⟩) (fun o h' q => ?_)
  obtain ⟨e, rfl⟩ := q
  exact ⟨e, w.setN2 k hk cpN_V⟩
theorem mcpI (g : GX) (w : MW A X R I S F h) (k : Nat) (hk : kdM k = (3, 0, 64)) {a n va : Nat} (hn : n ≤ 64) (oa : OpM A h a n va) : MT g MX10_copy ({ frames := 0, cells := 0, slots := 0, locals := 0 } : Room) [.ref a, .ref (A k), .int (nI n)] h (RV fun h' => ∃ f, V n f = va ∧ (∀ j, n ≤ j → f j = I k j) ∧ MW A X R (up I k f) S F h') := by
  obtain ⟨ra, na, fa, a1, a2, a3, rfl, -, -⟩ := oa
  refine MT.mono (mcopy_ok g a1 (w.i k hk) a2 hn ⟨a3, by decide⟩) (fun o h' q => ?_)
  obtain ⟨e, rfl⟩ := q
  exact ⟨e, _, cpN_V, fun j hj => cpN_at hj, w.setI k hk _⟩
theorem msmP (g : GX) (w : MW A X R I S F h) (k : Nat) (hk : kdM k = (1, 0, 12)) {v : Int32} (hv : u32 v < pP) : MT g MX10_small ({ frames := 0, cells := 0, slots := 0, locals := 0 } : Room) [.int v, .ref (A k), .int 12] h (RV fun h' => MW A X (rSet k (u32 v) R) I S F h') := by
  obtain ⟨f, h1, -, -⟩ := w.n k hk
  refine MT.mono (msmall_ok g (n := 12) h1 (by decide) (Nat.le_refl _) (by decide)) (fun o h' q => ?_)
  obtain ⟨e, rfl⟩ := q
  exact ⟨e, w.setN k hk (smN_V (by decide)) hv⟩
/-- inverse -/
theorem miW (g : GX) (w : MW A X R I S F h) {j n mv a va to no : Nat} {fo : Nat → Int32} (hm : MoS I F j n mv) (oa : OpM A h a n va) (ho : h to = some (Ai false 0 no fo)) (eo : to ≠ A 5 ∧ to ≠ A 6 ∧ to ≠ A 7 ∧ to ≠ A 8) (hn : n ≤ no) (hl : no < 2 ^ 31) (hodd : mv % 2 = 1) (h1 : 1 < mv) :
    MT g MX10_inverse ({ frames := 3, cells := 0, slots := 0, locals := 70 } : Room) [.ref (A 96), .ref (A (500 + j)), .ref a, .ref to] h (RI fun r h' => ∃ (L R' O T f : Nat → Int32), r = (if Nat.gcd va mv = 1 then 1 else 0) ∧ (Nat.gcd va mv = 1 → V n f = invM mv va) ∧ V n f < mv ∧ (∀ j, n ≤ j → f j = fo j) ∧ h' = hset (hset (hset (hset (hset h (A 5) (Ai false 0 64 L)) (A 6) (Ai false 0 64 R')) (A 7) (Ai false 0 64 O)) (A 8) (Ai false 0 64 T)) to (Ai false 0 no f)) := by
  obtain ⟨ra, na, fa, a1, a2, a3, rfl, -, a5⟩ := oa
  obtain ⟨L0, hL⟩ := w.j 5 rfl
  obtain ⟨R0, hR⟩ := w.j 6 rfl
  obtain ⟨O0, hO⟩ := w.j 7 rfl
  obtain ⟨T0, hT⟩ := w.j 8 rfl
  obtain ⟨s, Nm, fm, hM, hmm, k1, k2, rfl, k4, k5, -⟩ := hm.T w
  exact minv_ok g w.ob hM hmm a1 ho mf_5 mf_6 mf_7 mf_8 ⟨w.ne (by decide) (by decide) (by decide), w.ne (by decide) (by decide) (by decide), w.ne (by decide) (by decide) (by decide), w.ne (by decide) (by decide) (by decide), w.ne (by decide) (by decide) (by decide), w.ne (by decide) (by decide) (by decide)⟩
    ⟨hL, hR, hO, hT, fun _ _ _ _ _ => rfl⟩ a5 eo (hm.sc w).2 (by omega) k5 ⟨k1, a2, hn⟩ ⟨k2, a3, hl⟩ hodd h1
theorem pP_odd : pP % 2 = 1 := by decide +kernel
theorem qP_odd : qP % 2 = 1 := by decide +kernel
theorem gcd_p {v : Nat} (h0 : v ≠ 0) (hv : v < pP) : Nat.gcd v pP = 1 := by
  rw [Nat.gcd_comm]
  exact prP.cop fun hd => by
    have := Nat.le_of_dvd (Nat.pos_of_ne_zero h0) hd
    omega
theorem gcd_q {v : Nat} (h0 : v ≠ 0) (hv : v < qP) : Nat.gcd v qP = 1 := by
  rw [Nat.gcd_comm]
  exact prQ.cop fun hd => by
    have := Nat.le_of_dvd (Nat.pos_of_ne_zero h0) hd
    omega
theorem miP (g : GX) (w : MW A X R I S F h) (k : Nat) (hk : kdM k = (1, 0, 12)) {a va : Nat} (oa : OpP A h a va) (h0 : va ≠ 0) :
    MT g MX10_inverse ({ frames := 3, cells := 0, slots := 0, locals := 70 } : Room) [.ref (A 96), .ref (A 500), .ref a, .ref (A k)] h (RI fun r h' => r = 1 ∧ MW A X (up R k (invM pP va)) I S F h') := by
  obtain ⟨f, h1, -, -⟩ := w.n k hk
  refine MT.mono (miW g w mo0 oa.1 h1 (w.sc (by rw [hk]; decide) (scr_k hk (by decide))).2 (Nat.le_refl _) (by decide) pP_odd (by decide +kernel)) (fun o h' q => ?_)
  obtain ⟨r, e, L, R', O, T, f', hr, hv, hlt, -, rfl⟩ := q
  have hg := gcd_p h0 oa.2
  rw [if_pos hg] at hr
  have hv := hv hg
  rw [hv] at hlt
  exact ⟨r, e, hr, ((((w.setJ 5 rfl L).setJ 6 rfl R').setJ 7 rfl O).setJ 8 rfl T).setN k hk hv hlt⟩
theorem miQ (g : GX) (w : MW A X R I S F h) (k : Nat) (hk : kdM k = (2, 0, 12)) {a va : Nat} (oa : OpM A h a 12 va) (h0 : va ≠ 0) (hq : va < qP) :
    MT g MX10_inverse ({ frames := 3, cells := 0, slots := 0, locals := 70 } : Room) [.ref (A 96), .ref (A 501), .ref a, .ref (A k)] h (RI fun r h' => r = 1 ∧ MW A X (up R k (invM qP va)) I S F h') := by
  obtain ⟨f, h1, -⟩ := w.n2 k hk
  refine MT.mono (miW g w mo1 oa h1 (w.sc (by rw [hk]; decide) (scr_k hk (by decide))).2 (Nat.le_refl _) (by decide) qP_odd (by decide +kernel)) (fun o h' q => ?_)
  obtain ⟨r, e, L, R', O, T, f', hr, hv, hlt, -, rfl⟩ := q
  have hg := gcd_q h0 hq
  rw [if_pos hg] at hr
  exact ⟨r, e, hr, ((((w.setJ 5 rfl L).setJ 6 rfl R').setJ 7 rfl O).setJ 8 rfl T).setN2 k hk (hv hg)⟩
theorem miI (g : GX) (w : MW A X R I S F h) {j n mv : Nat} (hm : MoS I F j n mv) (hn : n ≤ 64) (hodd : mv % 2 = 1) (h1 : 1 < mv) (k : Nat) (hk : kdM k = (3, 0, 64)) {a va : Nat} (oa : OpM A h a n va) :
    MT g MX10_inverse ({ frames := 3, cells := 0, slots := 0, locals := 70 } : Room) [.ref (A 96), .ref (A (500 + j)), .ref a, .ref (A k)] h (RI fun r h' => r = (if Nat.gcd va mv = 1 then 1 else 0) ∧ ∃ f, (Nat.gcd va mv = 1 → V n f = invM mv va) ∧ V n f < mv ∧ MW A X R (up I k f) S F h') := by
  refine MT.mono (miW g w hm oa (w.i k hk) (w.sc (by rw [hk]; decide) (scr_k hk (by decide))).2 hn (by decide) hodd h1) (fun o h' q => ?_)
  obtain ⟨r, e, L, R', O, T, f', hr, hv, hlt, -, rfl⟩ := q
  exact ⟨r, e, hr, f', hv, hlt, ((((w.setJ 5 rfl L).setJ 6 rfl R').setJ 7 rfl O).setJ 8 rfl T).setI k hk f'⟩
end MO2
