set_option maxRecDepth 100000
/-! VeilMint's moduli over its world -/
/-- where a number may be written: a register of n limbs, or a field number -/
def St (kd : Nat → KD) (k n mv : Nat) : Prop := kd k = (2, 0, n) ∨ (kd k = (1, 0, 12) ∧ n = 12 ∧ mv ≤ pP)
theorem St.p {kd : Nat → KD} {k : Nat} (hk : kd k = (1, 0, 12)) : St kd k 12 pP := Or.inr ⟨hk, rfl, Nat.le_refl _⟩
theorem St.q {kd : Nat → KD} {k n mv : Nat} (hk : kd k = (2, 0, n)) : St kd k n mv := Or.inl hk
section XO
variable {kd : Nat → KD} {A : Nat → Nat} {X : AH} {R : Nat → Nat} {S : Nat → List Int32} {O : Nat → AC} {F : Nat → Int32} {h : AH}
theorem St.nz {k n mv : Nat} (st : St kd k n mv) : (kd k).1 ≠ 0 := by
  rcases st with e | ⟨e, -⟩
  · rw [e]; exact Nat.succ_ne_zero _
  · rw [e]; exact Nat.succ_ne_zero _
theorem St.n7 {k n mv : Nat} (st : St kd k n mv) : (kd k).1 ≠ 7 := by
  rcases st with e | ⟨e, -⟩
  · rw [e]; exact (by decide : (2 : Nat) ≠ 7)
  · rw [e]; exact (by decide : (1 : Nat) ≠ 7)
theorem St.n4 {k n mv : Nat} (st : St kd k n mv) : (kd k).1 ≠ 4 := by
  rcases st with e | ⟨e, -⟩
  · rw [e]; exact (by decide : (2 : Nat) ≠ 4)
  · rw [e]; exact (by decide : (1 : Nat) ≠ 4)
theorem XW.getG (w : XW kd A X R S O F h) {k n mv : Nat} (st : St kd k n mv) : ∃ f, h (A k) = some (Ai false 0 n f) ∧ V n f = R k := by
  rcases st with e | ⟨e, rfl, -⟩
  · exact w.n2 k e
  · obtain ⟨f, h1, h2, -⟩ := w.n k e
    exact ⟨f, h1, h2⟩
theorem XW.setG (w : XW kd A X R S O F h) {k n mv : Nat} (st : St kd k n mv) {v : Nat} {f : Nat → Int32} (hf : V n f = v) (hv : v < mv) : XW kd A X (up R k v) S O F (hset h (A k) (Ai false 0 n f)) := by
  rcases st with e | ⟨e, rfl, hm⟩
  · exact w.setN2 k e hf
  · exact w.setN k e hf (by omega)
theorem OpX.g (w : XW kd A X R S O F h) {k n mv : Nat} (st : St kd k n mv) : OpX kd A h (A k) n (R k) := by
  rcases st with e | ⟨e, rfl, -⟩
  · exact OpX.n2 w k e
  · exact OpX.n w k e
/-- two cells of different kinds lie apart -/
theorem XW.nk (w : XW kd A X R S O F h) {k k' a : Nat} (h1 : (kd k).1 = a) (h2 : (kd k').1 ≠ a) (h0 : a ≠ 0) (h3 : (kd k').1 ≠ 0) : A k ≠ A k' := w.ne (by rw [h1]; exact h0) h3 (fun z => by rw [z] at h1; exact h2 h1)
section Mod
variable {K p mv : Nat} {ng : Int32}
theorem MoK.mu (mo : MoK kd A O K p mv ng) (i : Nat) (hi : i < 10) : mutK (K + i) = false := mut_f (by have := mo.2.2.2.2.2.2.2.2.2.2.2.2.2.2.2.2.2.2.2.2; omega)
theorem MoK.ob (mo : MoK kd A O K p mv ng) (w : XW kd A X R S O F h) : h (A K) = some (MdC (fun i => A (K + i)) (p + 1) ng) := by rw [w.ob K mo.1 (mo.mu 0 (by decide)), mo.2.1]
theorem MoK.m (mo : MoK kd A O K p mv ng) (w : XW kd A X R S O F h) : h (A (K + 1)) = some (nm (p + 1) mv) := by rw [w.ob _ mo.2.2.1 (mo.mu 1 (by decide)), mo.2.2.2.1]
theorem MoK.one (mo : MoK kd A O K p mv ng) (w : XW kd A X R S O F h) : h (A (K + 2)) = some (nm (p + 1) (2 ^ (32 * (p + 1)) % mv)) := by rw [w.ob _ mo.2.2.2.2.1 (mo.mu 2 (by decide)), mo.2.2.2.2.2.1]
theorem MoK.sq (mo : MoK kd A O K p mv ng) (w : XW kd A X R S O F h) : h (A (K + 3)) = some (nm (p + 1) (2 ^ (32 * (p + 1)) * 2 ^ (32 * (p + 1)) % mv)) := by rw [w.ob _ mo.2.2.2.2.2.2.1 (mo.mu 3 (by decide)), mo.2.2.2.2.2.2.2.1]
theorem MoK.un (mo : MoK kd A O K p mv ng) (w : XW kd A X R S O F h) : h (A (K + 4)) = some (nm (p + 1) 1) := by rw [w.ob _ mo.2.2.2.2.2.2.2.2.1 (mo.mu 4 (by decide)), mo.2.2.2.2.2.2.2.2.2.1]
theorem MoK.t (mo : MoK kd A O K p mv ng) : kd (K + 5) = (4, 0, p + 1 + 2) := mo.2.2.2.2.2.2.2.2.2.2.1
theorem MoK.odd (mo : MoK kd A O K p mv ng) : mv % 2 = 1 := mo.2.2.2.2.2.2.2.2.2.2.2.2.2.2.2.1
theorem MoK.big (mo : MoK kd A O K p mv ng) : 1 < mv := mo.2.2.2.2.2.2.2.2.2.2.2.2.2.2.2.2.1
theorem MoK.lt (mo : MoK kd A O K p mv ng) : mv < 2 ^ (32 * (p + 1)) := mo.2.2.2.2.2.2.2.2.2.2.2.2.2.2.2.2.2.1
theorem MoK.ngo (mo : MoK kd A O K p mv ng) : (u32 ng * u32 (lim mv 0) + 1) % 2 ^ 32 = 0 := by
  have := mo.2.2.2.2.2.2.2.2.2.2.2.2.2.2.2.2.2.2.1
  rw [u32_lim, Nat.mul_zero, Nat.pow_zero, Nat.div_one, Nat.add_mod, Nat.mul_mod, Nat.mod_mod, ← Nat.mul_mod, ← Nat.add_mod]
  exact this
theorem MoK.p64 (mo : MoK kd A O K p mv ng) : p < 64 := mo.2.2.2.2.2.2.2.2.2.2.2.2.2.2.2.2.2.2.2.1
theorem MoK.V (mo : MoK kd A O K p mv ng) : V (p + 1) (lim mv) = mv := V_nm mo.lt
theorem OpX.nj (w : XW kd A X R S O F h) {a n v j : Nat} (oa : OpX kd A h a n v) (hj : (kd j).1 = 4) : a ≠ A j := by
  obtain ⟨f, -, -, h3⟩ := oa
  exact fun z => h3 j hj z.symm
theorem xmulW (g : GX) (w : XW kd A X R S O F h) (mo : MoK kd A O K p mv ng) (k : Nat) (st : St kd k (p + 1) mv) {a b va vb : Nat} (oa : OpX kd A h a (p + 1) va) (ob : OpX kd A h b (p + 1) vb) (hvb : vb < mv) :
    MT g MX6_mul ({ frames := 3, cells := 0, slots := 0, locals := 64 } : Room) [.ref (A K), .ref a, .ref b, .ref (A k)] h (RV fun h' => XW kd A X (up R k (mgm mv (p + 1) (va * vb))) S O F h') := by
  obtain ⟨fo, ho, -⟩ := w.getG st
  obtain ⟨ft, ht⟩ := w.j (K + 5) mo.t
  have ja := oa.nj w (j := K + 5) (by rw [mo.t])
  have jb := ob.nj w (j := K + 5) (by rw [mo.t])
  obtain ⟨fa, ha, rfl, -⟩ := oa
  obtain ⟨fb, hb, rfl, -⟩ := ob
  have hp := mo.p64
  refine MT.mono (xmul_ok g (c0 := fun i => A (K + i)) (mo.ob w) rfl (mo.m w) ht ha hb ho ⟨?_, ja, jb, ?_⟩ ?_ mo.ngo (by rw [mo.V]; exact hvb) (by omega)) (fun o h' q => ?_)
  · exact w.nk (a := 7) (by rw [mo.2.2.1]) (by rw [mo.t]; exact (by decide : (4 : Nat) ≠ 7)) (by decide) (by rw [mo.t]; exact Nat.succ_ne_zero _)
  · exact fun z => w.nk (a := 4) (by rw [mo.t]) st.n4 (by decide) st.nz z.symm
  · exact w.nk (a := 7) (by rw [mo.2.2.1]) st.n7 (by decide) st.nz
  · obtain ⟨e, f, f5, h1, h2, rfl⟩ := q
    rw [mo.V] at h1 h2
    exact ⟨e, (w.setJ (K + 5) mo.t f5).setG st (mgm_eq mo.odd h1 h2) (mgm_lt mo.odd _ _)⟩
theorem xaddW (g : GX) (w : XW kd A X R S O F h) (mo : MoK kd A O K p mv ng) (k : Nat) (st : St kd k (p + 1) mv) {a b va vb : Nat} (oa : OpX kd A h a (p + 1) va) (ob : OpX kd A h b (p + 1) vb) (hva : va < mv) (hvb : vb < mv) :
    MT g MX6_add ({ frames := 3, cells := 0, slots := 0, locals := 64 } : Room) [.ref (A K), .ref a, .ref b, .ref (A k)] h (RV fun h' => XW kd A X (up R k ((va + vb) % mv)) S O F h') := by
  obtain ⟨fo, ho, -⟩ := w.getG st
  obtain ⟨fa, ha, rfl, -⟩ := oa
  obtain ⟨fb, hb, rfl, -⟩ := ob
  have hp := mo.p64
  refine MT.mono (xadd_ok g (mo.ob w) rfl (mo.m w) ha hb ho ?_ (by rw [mo.V]; exact hva) (by rw [mo.V]; exact hvb) (by omega)) (fun o h' q => ?_)
  · exact w.nk (a := 7) (by rw [mo.2.2.1]) st.n7 (by decide) st.nz
  · obtain ⟨e, f, h1, rfl⟩ := q
    rw [mo.V] at h1
    exact ⟨e, w.setG st h1 (Nat.mod_lt _ (by have := mo.big; omega))⟩
theorem xsubW (g : GX) (w : XW kd A X R S O F h) (mo : MoK kd A O K p mv ng) (k : Nat) (st : St kd k (p + 1) mv) {a b va vb : Nat} (oa : OpX kd A h a (p + 1) va) (ob : OpX kd A h b (p + 1) vb) (hva : va < mv) (hvb : vb < mv) :
    MT g MX6_sub ({ frames := 1, cells := 0, slots := 0, locals := 27 } : Room) [.ref (A K), .ref a, .ref b, .ref (A k)] h (RV fun h' => XW kd A X (up R k (sbN mv va vb)) S O F h') := by
  obtain ⟨fo, ho, -⟩ := w.getG st
  obtain ⟨fa, ha, rfl, -⟩ := oa
  obtain ⟨fb, hb, rfl, -⟩ := ob
  have hp := mo.p64
  refine MT.mono (xsub_ok g (mo.ob w) rfl (mo.m w) ha hb ho ?_ (by rw [mo.V]; exact hva) (by rw [mo.V]; exact hvb) (by omega)) (fun o h' q => ?_)
  · exact w.nk (a := 7) (by rw [mo.2.2.1]) st.n7 (by decide) st.nz
  · obtain ⟨e, f, h1, rfl⟩ := q
    rw [mo.V] at h1
    exact ⟨e, w.setG st h1 (Nat.mod_lt _ (by have := mo.big; omega))⟩
end Mod
theorem xcopyW (g : GX) (w : XW kd A X R S O F h) {n mv : Nat} (k : Nat) (st : St kd k n mv) {a va : Nat} (oa : OpX kd A h a n va) (hva : va < mv) (hn : n < 2 ^ 31) :
    MT g MX6_copy ({ frames := 1, cells := 0, slots := 0, locals := 48 } : Room) [.ref a, .ref (A k)] h (RV fun h' => XW kd A X (up R k va) S O F h') := by
  obtain ⟨fo, ho, -⟩ := w.getG st
  obtain ⟨fa, ha, rfl, -⟩ := oa
  refine MT.mono (copy_ok g ha ho (Nat.le_refl n) hn) (fun o h' q => ?_)
  obtain ⟨e, rfl⟩ := q
  exact ⟨e, w.setG st V_cpy hva⟩
theorem xzeroW (g : GX) {a n va : Nat} (oa : OpX kd A h a n va) (hn : n < 2 ^ 31) : MT g MX6_isZero ({ frames := 0, cells := 0, slots := 0, locals := 0 } : Room) [.ref a] h (RI fun r h' => r = (if va = 0 then 1 else 0) ∧ h' = h) := by
  obtain ⟨fa, ha, rfl, -⟩ := oa
  exact isZero_ok g ha hn
theorem xcmpW (g : GX) {a b n va vb : Nat} (oa : OpX kd A h a n va) (ob : OpX kd A h b n vb) (hn : n < 2 ^ 31) : MT g MX6_compare ({ frames := 2, cells := 0, slots := 0, locals := 42 } : Room) [.ref a, .ref b] h (RI fun r h' => r = cmpN va vb ∧ h' = h) := by
  obtain ⟨fa, ha, rfl, -⟩ := oa
  obtain ⟨fb, hb, rfl, -⟩ := ob
  exact compare_ok g ha hb (Nat.le_refl n) hn
theorem mgm_in {m n a : Nat} (hm : m % 2 = 1) : mgm m n (a * (2 ^ (32 * n) * 2 ^ (32 * n) % m)) = a * 2 ^ (32 * n) % m := by
  refine (mgm_eq hm (Nat.mod_lt _ (by omega)) ?_).symm
  rw [Nat.mod_mul_mod, Nat.mul_mod_mod]
  congr 1
  rw [Nat.mul_assoc]
section Mod2
variable {K p mv : Nat} {ng : Int32}
theorem MoK.oU (mo : MoK kd A O K p mv ng) (w : XW kd A X R S O F h) : OpX kd A h (A (K + 4)) (p + 1) 1 := OpX.o w _ mo.2.2.2.2.2.2.2.2.1 (mo.mu 4 (by decide)) mo.2.2.2.2.2.2.2.2.2.1 (by have := mo.big; have := mo.lt; omega)
theorem MoK.o1 (mo : MoK kd A O K p mv ng) (w : XW kd A X R S O F h) : OpX kd A h (A (K + 2)) (p + 1) (2 ^ (32 * (p + 1)) % mv) := OpX.o w _ mo.2.2.2.2.1 (mo.mu 2 (by decide)) mo.2.2.2.2.2.1 (by have := Nat.mod_lt (2 ^ (32 * (p + 1))) (show 0 < mv by have := mo.big; omega); have := mo.lt; omega)
theorem MoK.oS (mo : MoK kd A O K p mv ng) (w : XW kd A X R S O F h) : OpX kd A h (A (K + 3)) (p + 1) (2 ^ (32 * (p + 1)) * 2 ^ (32 * (p + 1)) % mv) := OpX.o w _ mo.2.2.2.2.2.2.1 (mo.mu 3 (by decide)) mo.2.2.2.2.2.2.2.1 (by have := Nat.mod_lt (2 ^ (32 * (p + 1)) * 2 ^ (32 * (p + 1))) (show 0 < mv by have := mo.big; omega); have := mo.lt; omega)
theorem MoK.oM (mo : MoK kd A O K p mv ng) (w : XW kd A X R S O F h) : OpX kd A h (A (K + 1)) (p + 1) mv := OpX.o w _ mo.2.2.1 (mo.mu 1 (by decide)) mo.2.2.2.1 mo.lt
theorem xinW (g : GX) (w : XW kd A X R S O F h) (mo : MoK kd A O K p mv ng) (k : Nat) (st : St kd k (p + 1) mv) {a va : Nat} (oa : OpX kd A h a (p + 1) va) :
    MT g MX6_in ({ frames := 4, cells := 0, slots := 0, locals := 95 } : Room) [.ref (A K), .ref a, .ref (A k)] h (RV fun h' => XW kd A X (up R k (va * 2 ^ (32 * (p + 1)) % mv)) S O F h') := by
  refine MT.of (by decide) (Nat.le_of_ble_eq_true rfl) ?_
  have m0 := mo.big
  refine X_aload_n (pc := 0) 0 dX6_in_0 rfl rfl ?_
  refine X_aload_n (pc := 1) 1 dX6_in_1 rfl rfl ?_
  refine X_aload_n (pc := 2) 0 dX6_in_2 rfl rfl ?_
  refine X_getfield (pc := 3) dX6_in_3 fg_X6_20_4 (mo.ob w) (by first | rfl | assumption) ?_
  refine X_aload_n (pc := 6) 2 dX6_in_6 rfl rfl ?_
  refine X_ivv (pc := 7) _ dX6_in_7 cv_X6_77_4 (mo.ob w) rfl (xmulW g w mo k st oa (mo.oS w) (Nat.mod_lt _ (by omega))) nX6_mul (Nat.le_of_ble_eq_true rfl) (Nat.le_of_ble_eq_true rfl) (Nat.le_of_ble_eq_true rfl) (Nat.le_of_ble_eq_true rfl) (fun h1 q1 => ?_)
  rw [mgm_in mo.odd] at q1
  refine X_return (pc := 10) dX6_in_10 rfl (Nat.le_of_ble_eq_true rfl) (Nat.le_of_ble_eq_true rfl) ?_
  exact ⟨rfl, q1⟩
theorem xfromW (g : GX) (w : XW kd A X R S O F h) (mo : MoK kd A O K p mv ng) (k : Nat) (st : St kd k (p + 1) mv) {a va : Nat} (oa : OpX kd A h a (p + 1) va) :
    MT g MX6_from ({ frames := 4, cells := 0, slots := 0, locals := 95 } : Room) [.ref (A K), .ref a, .ref (A k)] h (RV fun h' => XW kd A X (up R k (mgm mv (p + 1) va)) S O F h') := by
  refine MT.of (by decide) (Nat.le_of_ble_eq_true rfl) ?_
  refine X_aload_n (pc := 0) 0 dX6_from_0 rfl rfl ?_
  refine X_aload_n (pc := 1) 1 dX6_from_1 rfl rfl ?_
  refine X_aload_n (pc := 2) 0 dX6_from_2 rfl rfl ?_
  refine X_getfield (pc := 3) dX6_from_3 fg_X6_23_4 (mo.ob w) (by first | rfl | assumption) ?_
  refine X_aload_n (pc := 6) 2 dX6_from_6 rfl rfl ?_
  refine X_ivv (pc := 7) _ dX6_from_7 cv_X6_77_4 (mo.ob w) rfl (xmulW g w mo k st oa (mo.oU w) mo.big) nX6_mul (Nat.le_of_ble_eq_true rfl) (Nat.le_of_ble_eq_true rfl) (Nat.le_of_ble_eq_true rfl) (Nat.le_of_ble_eq_true rfl) (fun h1 q1 => ?_)
  rw [Nat.mul_one] at q1
  refine X_return (pc := 10) dX6_from_10 rfl (Nat.le_of_ble_eq_true rfl) (Nat.le_of_ble_eq_true rfl) ?_
  exact ⟨rfl, q1⟩
theorem xinvW (g : GX) (w : XW kd A X R S O F h) (mo : MoK kd A O K p mv ng) (k : Nat) (st : St kd k (p + 1) mv) {a va : Nat} (oa : OpX kd A h a (p + 1) va) (hp : kd k = (2, 0, p + 1) ∨ Nat.gcd va mv = 1) :
    MT g MX6_inverse ({ frames := 3, cells := 0, slots := 0, locals := 69 } : Room) [.ref (A K), .ref a, .ref (A k)] h (RI fun r h' => ∃ v, r = (if Nat.gcd va mv = 1 then 1 else 0) ∧ (Nat.gcd va mv = 1 → v = invM mv va) ∧ XW kd A X (up R k v) S O F h') := by
  obtain ⟨fo, ho, -⟩ := w.getG st
  have k6 := mo.2.2.2.2.2.2.2.2.2.2.2.1
  have k7 := mo.2.2.2.2.2.2.2.2.2.2.2.2.1
  have k8 := mo.2.2.2.2.2.2.2.2.2.2.2.2.2.1
  have k9 := mo.2.2.2.2.2.2.2.2.2.2.2.2.2.2.1
  obtain ⟨fu, hu⟩ := w.j (K + 6) k6
  obtain ⟨fv, hv⟩ := w.j (K + 7) k7
  obtain ⟨fx, hx⟩ := w.j (K + 8) k8
  obtain ⟨fy, hy⟩ := w.j (K + 9) k9
  have j6 := oa.nj w (j := K + 6) (by rw [k6])
  have j7 := oa.nj w (j := K + 7) (by rw [k7])
  have j8 := oa.nj w (j := K + 8) (by rw [k8])
  have j9 := oa.nj w (j := K + 9) (by rw [k9])
  obtain ⟨fa, ha, rfl, -⟩ := oa
  have hp6 := mo.p64
  have z6 : (kd (K + 6)).1 ≠ 0 := by rw [k6]; exact Nat.succ_ne_zero _
  have z7 : (kd (K + 7)).1 ≠ 0 := by rw [k7]; exact Nat.succ_ne_zero _
  have z8 : (kd (K + 8)).1 ≠ 0 := by rw [k8]; exact Nat.succ_ne_zero _
  have z9 : (kd (K + 9)).1 ≠ 0 := by rw [k9]; exact Nat.succ_ne_zero _
  have d : D4 (A (K + 6)) (A (K + 7)) (A (K + 8)) (A (K + 9)) := ⟨w.ne z6 z7 (by omega), w.ne z6 z8 (by omega), w.ne z6 z9 (by omega), w.ne z7 z8 (by omega), w.ne z7 z9 (by omega), w.ne z8 z9 (by omega)⟩
  have e7 : ∀ {j : Nat}, kd j = (7, 0, 0) → A j ≠ A (K + 6) ∧ A j ≠ A (K + 7) ∧ A j ≠ A (K + 8) ∧ A j ≠ A (K + 9) := fun {j} hj =>
    ⟨w.nk (a := 7) (by rw [hj]) (by rw [k6]; exact (by decide : (4 : Nat) ≠ 7)) (by decide) z6, w.nk (a := 7) (by rw [hj]) (by rw [k7]; exact (by decide : (4 : Nat) ≠ 7)) (by decide) z7, w.nk (a := 7) (by rw [hj]) (by rw [k8]; exact (by decide : (4 : Nat) ≠ 7)) (by decide) z8, w.nk (a := 7) (by rw [hj]) (by rw [k9]; exact (by decide : (4 : Nat) ≠ 7)) (by decide) z9⟩
  have eo : A k ≠ A (K + 6) ∧ A k ≠ A (K + 7) ∧ A k ≠ A (K + 8) ∧ A k ≠ A (K + 9) :=
    ⟨fun z => w.nk (a := 4) (by rw [k6]) st.n4 (by decide) st.nz z.symm, fun z => w.nk (a := 4) (by rw [k7]) st.n4 (by decide) st.nz z.symm, fun z => w.nk (a := 4) (by rw [k8]) st.n4 (by decide) st.nz z.symm, fun z => w.nk (a := 4) (by rw [k9]) st.n4 (by decide) st.nz z.symm⟩
  refine MT.mono (xinv_ok g (ra := false) (mo.ob w) rfl rfl rfl rfl rfl rfl rfl (mo.m w) (mo.un w) ha ho d ⟨hu, hv, hx, hy, fun _ _ _ _ _ => rfl⟩ ⟨j6, j7, j8, j9⟩ eo (e7 mo.2.2.1) (e7 mo.2.2.2.2.2.2.2.2.1) ?_ (by omega) (by omega) (by rw [mo.V]; exact mo.odd) (by rw [mo.V]; exact mo.big) ?_) (fun o h' q => ?_)
  · exact w.nk (a := 7) (by rw [mo.2.2.2.2.2.2.2.2.1]) st.n7 (by decide) st.nz
  · exact V_nm (by have := mo.big; have := mo.lt; omega)
  · obtain ⟨r, e, U, W, X1, Y, f, h1, h2, rfl⟩ := q
    rw [mo.V] at h1 h2
    refine ⟨r, e, V (p + 1) f, h1, fun z => (h2 z).1, ?_⟩
    have w4 := (((w.setJ (K + 6) k6 U).setJ (K + 7) k7 W).setJ (K + 8) k8 X1).setJ (K + 9) k9 Y
    rcases hp with hp | hp
    · exact w4.setN2 k hp rfl
    · exact w4.setG st rfl (h2 hp).2
end Mod2
end XO
