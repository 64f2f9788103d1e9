set_option maxRecDepth 100000
/-! VeilMint: numbers of bytes, over its world -/
section XR6
variable {kd : Nat → KD} {A : Nat → Nat} {X : AH} {R : Nat → Nat} {S : Nat → List Int32} {O : Nat → AC} {F : Nat → Int32} {h : AH}
theorem num_PL {f : Nat → Int32} {l : List Int32} {fr n : Nat} (hp : PL f l) (hl : fr + n ≤ l.length) : bsm f (fr + n) n = num l fr n := bsm_cg fun j hj => hp _ (by omega)
section Mod
variable {K p mv : Nat} {ng : Int32}
theorem xreadW (g : GX) (w : XW kd A X R S O F h) (mo : MoK kd A O K p mv ng) (k : Nat) (hk : kd k = (2, 0, p + 1)) {kb nb fr many : Nat} (hkb : kd kb = (6, 2, nb)) (hnb : nb < 2 ^ 31) (hl : fr + many ≤ (S kb).length) (hm : many ≤ 4 * (p + 1)) :
    MT g MX6_read ({ frames := 4, cells := 0, slots := 0, locals := 85 } : Room) [.ref (A K), .ref (A kb), .int (nI fr), .int (nI many), .ref (A k)] h (RI fun r h' => r = (if num (S kb) fr many < mv then 1 else 0) ∧ XW kd A X (up R k (num (S kb) fr many)) S O F h') := by
  obtain ⟨fb, hb, hpl, hlb⟩ := w.s kb hkb
  obtain ⟨ft, ht, -⟩ := w.n2 k hk
  have hp := mo.p64
  refine MT.mono (xread_ok g (mo.ob w) rfl rfl (mo.m w) hb ht ?_ (by omega) hnb (by omega) hm) (fun o h' q => ?_)
  · exact w.nk (a := 7) (by rw [mo.2.2.1]) (by rw [hk]; exact (by decide : (2 : Nat) ≠ 7)) (by decide) (by rw [hk]; exact Nat.succ_ne_zero _)
  · obtain ⟨r, e, f, h1, h2, rfl⟩ := q
    rw [num_PL hpl hl] at h1 h2
    rw [mo.V] at h2
    exact ⟨r, e, h2, w.setN2 k hk h1⟩
theorem rest_in {P B j mv : Nat} : ((P * 2 ^ (8 - (j + 1)) + B / 2 ^ (j + 1)) % mv + (P * 2 ^ (8 - (j + 1)) + B / 2 ^ (j + 1)) % mv) % mv = (2 * (P * 2 ^ (8 - (j + 1)) + B / 2 ^ (j + 1))) % mv := by
  rw [← Nat.add_mod]
  congr 1
  omega
theorem rest_eq {P B j : Nat} (hj : j < 8) : P * 2 ^ (8 - j) + B / 2 ^ j = 2 * (P * 2 ^ (8 - (j + 1)) + B / 2 ^ (j + 1)) + B / 2 ^ j % 2 := by
  have := half_bit B j
  rw [show 8 - j = 8 - (j + 1) + 1 by omega, Nat.pow_succ, ← Nat.mul_assoc]
  omega
theorem byte_bit (x : Int32) {j : Nat} (hj : j < 8) : u32 x / 2 ^ j % 2 = b8 x / 2 ^ j % 2 := by
  have h8 : j = 0 ∨ j = 1 ∨ j = 2 ∨ j = 3 ∨ j = 4 ∨ j = 5 ∨ j = 6 ∨ j = 7 := by omega
  show u32 x / 2 ^ j % 2 = u32 x % 256 / 2 ^ j % 2
  rcases h8 with e | e | e | e | e | e | e | e <;> subst e <;> omega
set_option maxHeartbeats 4000000 in
theorem xrestW (g : GX) (w : XW kd A X R S O F h) (mo : MoK kd A O K p mv ng) (k : Nat) (st : St kd k (p + 1) mv) {kb nb fr many : Nat} (hkb : kd kb = (6, 2, nb)) (hnb : nb < 2 ^ 31) (hl : fr + many ≤ (S kb).length) :
    MT g MX6_rest ({ frames := 4, cells := 0, slots := 0, locals := 88 } : Room) [.ref (A K), .ref (A kb), .int (nI fr), .int (nI many), .ref (A k)] h (RV fun h' => XW kd A X (up R k (num (S kb) fr many % mv)) S O F h') := by
  refine MT.of (by decide) (Nat.le_of_ble_eq_true rfl) ?_
  have hp64 := mo.p64
  have m1' := mo.big
  have hlb : (S kb).length ≤ nb := (w.s kb hkb).choose_spec.2.2
  generalize hPost : (RV fun h' => XW kd A X (up R k (num (S kb) fr many % mv)) S O F h') = Post
  have inner : ∀ (i P : Nat), i < many → (∀ h', XW kd A X (up R k ((P * 256 + b8 ((S kb).getD (fr + i) 0)) % mv)) S O F h' → XX g MX6_rest ({ frames := 4, cells := 0, slots := 0, locals := 88 } : Room) Post 0 0 85 [(6, .int (-1)), (5, .int (nI i)), (0, .ref (A K)), (1, .ref (A kb)), (2, .int (nI fr)), (3, .int (nI many)), (4, .ref (A k))] [] h') →
      ∀ j, j ≤ 8 → ∀ h', XW kd A X (up R k ((P * 2 ^ (8 - j) + b8 ((S kb).getD (fr + i) 0) / 2 ^ j) % mv)) S O F h' →
      XX g MX6_rest ({ frames := 4, cells := 0, slots := 0, locals := 88 } : Room) Post 0 0 37 [(6, .int (nI j - 1)), (5, .int (nI i)), (0, .ref (A K)), (1, .ref (A kb)), (2, .int (nI fr)), (3, .int (nI many)), (4, .ref (A k))] [] h' := by
    intro i P hi hx j
    induction j with
    | zero =>
      intro _ h' w'
      refine X_iload (pc := 37) 0 dX6_rest_37 rfl ?_
      refine X_if_lt (pc := 39) 85 dX6_rest_39 (by decide) (fun c_39 => ?_) (fun c_39 => ?_)
      · refine hx h' ?_
        rw [Nat.pow_zero, Nat.div_one] at w'
        exact w'
      · exact absurd (show nI 0 - 1 < 0 by decide) c_39
    | succ j ih =>
      intro hj h' w'
      rw [nI_pred]
      have lt : up R k ((P * 2 ^ (8 - (j + 1)) + b8 ((S kb).getD (fr + i) 0) / 2 ^ (j + 1)) % mv) k < mv := by rw [up_same]; exact Nat.mod_lt _ (by omega)
      have cb : (nI (fr + i)).toNatClampNeg = fr + i := nI_clamp (by omega)
      have b2 : vp_in (nI (fr + i)) nb := vp_in_nI (by omega) (by omega)
      refine X_iload (pc := 37) 0 dX6_rest_37 rfl ?_
      refine X_if_lt (pc := 39) 85 dX6_rest_39 (by decide) (fun c_39 => ?_) (fun c_39 => ?_)
      · exact absurd c_39 (nI_pos (by omega))
      · refine X_aload_n (pc := 42) 2 dX6_rest_42 rfl rfl ?_
        refine X_aload (pc := 43) 6 dX6_rest_43 rfl ?_
        refine X_aload (pc := 45) 6 dX6_rest_45 rfl ?_
        refine X_aload (pc := 47) 6 dX6_rest_47 rfl ?_
        refine X_ivv (pc := 49) _ dX6_rest_49 cv_X6_48_4 (mo.ob w') rfl (xaddW g w' mo k st (OpX.g w' st) (OpX.g w' st) lt lt) nX6_add (Nat.le_of_ble_eq_true rfl) (Nat.le_of_ble_eq_true rfl) (Nat.le_of_ble_eq_true rfl) (Nat.le_of_ble_eq_true rfl) (fun h2 w2 => ?_)
        rw [up_same, up_up', rest_in] at w2
        obtain ⟨fb, hb, hpl, -⟩ := w2.s kb hkb
        have eb := rest_eq (P := P) (B := b8 ((S kb).getD (fr + i) 0)) (j := j) (by omega)
        refine X_aload_n (pc := 52) 3 dX6_rest_52 rfl rfl ?_
        refine X_iload_n (pc := 53) 4 dX6_rest_53 rfl rfl ?_
        refine X_iload (pc := 54) 1 dX6_rest_54 rfl ?_
        refine X_iadd (pc := 56) dX6_rest_56 ?_
        rw [nI_add]
        refine X_baload (pc := 57) dX6_rest_57 hb b2 ?_
        refine X_iload (pc := 58) 0 dX6_rest_58 rfl ?_
        rw [cb, hpl (fr + i) (by omega)]
        have e60 := ashr_bit ((S kb).getD (fr + i) 0) (r := j) (by omega)
        rw [byte_bit _ (by omega)] at e60
        refine X_ishr (pc := 60) dX6_rest_60 ?_
        refine X_iconst (pc := 61) (x := 1) dX6_rest_61 (by decide) ?_
        refine X_iand (pc := 62) dX6_rest_62 ?_
        rw [e60]
        refine X_iconst (pc := 63) (x := 1) dX6_rest_63 (by decide) ?_
        have h01 : b8 ((S kb).getD (fr + i) 0) / 2 ^ j % 2 = 0 ∨ b8 ((S kb).getD (fr + i) 0) / 2 ^ j % 2 = 1 := by omega
        rcases h01 with hb0 | hb0
        · rw [hb0] at eb ⊢
          refine X_icmp_ne (pc := 64) 79 dX6_rest_64 (by decide) (fun _ => ?_) (fun c => absurd c (by decide))
          refine X_iinc (pc := 79) (L' := [(6, .int (_ + (-1))), (5, .int _), (0, .ref _), (1, .ref _), (2, .int _), (3, .int _), (4, .ref _)]) 0 dX6_rest_79 rfl rfl (Nat.le_of_ble_eq_true rfl) rfl ?_
          refine X_goto (pc := 82) 37 dX6_rest_82 (by decide) ?_
          rw [m1]
          refine ih (by omega) h2 ?_
          rw [eb]
          exact w2
        · rw [hb0] at eb ⊢
          refine X_icmp_ne (pc := 64) 79 dX6_rest_64 (by decide) (fun c => absurd rfl c) (fun _ => ?_)
          have lt2 : up R k (2 * (P * 2 ^ (8 - (j + 1)) + b8 ((S kb).getD (fr + i) 0) / 2 ^ (j + 1)) % mv) k < mv := by rw [up_same]; exact Nat.mod_lt _ (by omega)
          refine X_aload_n (pc := 67) 2 dX6_rest_67 rfl rfl ?_
          refine X_aload (pc := 68) 6 dX6_rest_68 rfl ?_
          refine X_aload_n (pc := 70) 2 dX6_rest_70 rfl rfl ?_
          refine X_getfield (pc := 71) dX6_rest_71 fg_X6_23_4 (mo.ob w2) (by first | rfl | assumption) ?_
          refine X_aload (pc := 74) 6 dX6_rest_74 rfl ?_
          refine X_ivv (pc := 76) _ dX6_rest_76 cv_X6_48_4 (mo.ob w2) rfl (xaddW g w2 mo k st (OpX.g w2 st) (mo.oU w2) lt2 m1') nX6_add (Nat.le_of_ble_eq_true rfl) (Nat.le_of_ble_eq_true rfl) (Nat.le_of_ble_eq_true rfl) (Nat.le_of_ble_eq_true rfl) (fun h3 w3 => ?_)
          rw [up_same, up_up', Nat.mod_add_mod, ← eb] at w3
          refine X_iinc (pc := 79) (L' := [(6, .int (_ + (-1))), (5, .int _), (0, .ref _), (1, .ref _), (2, .int _), (3, .int _), (4, .ref _)]) 0 dX6_rest_79 rfl rfl (Nat.le_of_ble_eq_true rfl) rfl ?_
          refine X_goto (pc := 82) 37 dX6_rest_82 (by decide) ?_
          rw [m1]
          exact ih (by omega) h3 w3
  have outer : ∀ m i, i + m = many → ∀ h', XW kd A X (up R k (num (S kb) fr i % mv)) S O F h' → XX g MX6_rest ({ frames := 4, cells := 0, slots := 0, locals := 88 } : Room) Post 0 0 27 [(5, .int (nI i)), (0, .ref (A K)), (1, .ref (A kb)), (2, .int (nI fr)), (3, .int (nI many)), (4, .ref (A k))] [] h' := by
    intro m
    induction m with
    | zero =>
      intro i hi h' w'
      have e : i = many := by omega
      subst e
      refine X_iload (pc := 27) 0 dX6_rest_27 rfl ?_
      refine X_iload_n (pc := 29) 4 dX6_rest_29 rfl rfl ?_
      refine X_cge (pc := 30) 91 dX6_rest_30 (by decide) (by omega) (by omega) (fun _ => ?_) (fun c => absurd c (by omega))
      subst hPost
      refine X_return (pc := 91) dX6_rest_91 rfl (Nat.le_of_ble_eq_true rfl) (Nat.le_of_ble_eq_true rfl) ?_
      exact ⟨rfl, w'⟩
    | succ m ih =>
      intro i hi h' w'
      refine X_iload (pc := 27) 0 dX6_rest_27 rfl ?_
      refine X_iload_n (pc := 29) 4 dX6_rest_29 rfl rfl ?_
      refine X_cge (pc := 30) 91 dX6_rest_30 (by decide) (by omega) (by omega) (fun c => absurd c (by omega)) (fun _ => ?_)
      refine X_bipush (pc := 33) (x := 7) dX6_rest_33 (by decide) ?_
      refine X_istore (pc := 35) (L' := [(6, .int _), (5, .int _), (0, .ref _), (1, .ref _), (2, .int _), (3, .int _), (4, .ref _)]) dX6_rest_35 (Nat.le_of_ble_eq_true rfl) rfl ?_
      refine inner i (num (S kb) fr i) (by omega) ?_ 8 (Nat.le_refl 8) h' ?_
      · intro h2 w2
        rw [← num_snoc] at w2
        refine X_iinc (pc := 85) (L' := [(5, .int (_ + 1)), (6, .int _), (0, .ref _), (1, .ref _), (2, .int _), (3, .int _), (4, .ref _)]) 1 dX6_rest_85 rfl rfl (Nat.le_of_ble_eq_true rfl) rfl ?_
        refine X_goto (pc := 88) 27 dX6_rest_88 (by decide) ?_
        rw [show nI i + 1 = nI (i + 1) from nI_add i 1]
        refine XX.pick (L' := [(5, .int _), (0, .ref _), (1, .ref _), (2, .int _), (3, .int _), (4, .ref _)]) [0, 2, 3, 4, 5, 6] rfl ?_
        exact ih (i + 1) (by omega) h2 w2
      · rw [Nat.div_eq_of_lt (Nat.mod_lt _ (by decide)), Nat.add_zero, Nat.sub_self, Nat.pow_zero, Nat.mul_one]
        exact w'
  have zeros : ∀ m i, i + m = p + 1 → ∀ (f : Nat → Int32), (∀ j, j < i → f j = 0) → XX g MX6_rest ({ frames := 4, cells := 0, slots := 0, locals := 88 } : Room) Post 0 0 3 [(5, .int (nI i)), (0, .ref (A K)), (1, .ref (A kb)), (2, .int (nI fr)), (3, .int (nI many)), (4, .ref (A k))] [] (hset h (A k) (Ai false 0 (p + 1) f)) := by
    have hMk : A K ≠ A k := w.nk (a := 7) (by rw [mo.1]) st.n7 (by decide) st.nz
    intro m
    induction m with
    | zero =>
      intro i hi f hz
      have c2 : hset h (A k) (Ai false 0 (p + 1) f) (A K) = some (MdC (fun i => A (K + i)) (p + 1) ng) := by rw [hset_ne hMk]; exact mo.ob w
      refine X_iload (pc := 3) 0 dX6_rest_3 rfl ?_
      refine X_aload_n (pc := 5) 1 dX6_rest_5 rfl rfl ?_
      refine X_getfield (pc := 6) dX6_rest_6 fg_X6_7_4 c2 (by first | rfl | assumption) ?_
      refine X_cge (pc := 9) 24 dX6_rest_9 (by decide) (by omega) (by omega) (fun _ => ?_) (fun c => absurd c (by omega))
      refine X_iconst (pc := 24) (x := 0) dX6_rest_24 (by decide) ?_
      refine X_istore (pc := 25) (L' := [(5, .int _), (0, .ref _), (1, .ref _), (2, .int _), (3, .int _), (4, .ref _)]) dX6_rest_25 (Nat.le_of_ble_eq_true rfl) rfl ?_
      have e : i = p + 1 := by omega
      subst e
      refine outer many 0 (by omega) _ ?_
      refine w.setG st ?_ (Nat.mod_lt _ (by omega))
      rw [V_zeros hz]
      show 0 = 0 % mv
      rw [Nat.zero_mod]
    | succ m ih =>
      intro i hi f hz
      have ci : (nI i).toNatClampNeg = i := nI_clamp (by omega)
      have b1 : vp_in (nI i) (p + 1) := vp_in_nI (by omega) (by omega)
      have c1 := hset_self h (A k) (Ai false 0 (p + 1) f)
      have c2 : hset h (A k) (Ai false 0 (p + 1) f) (A K) = some (MdC (fun i => A (K + i)) (p + 1) ng) := by rw [hset_ne hMk]; exact mo.ob w
      refine X_iload (pc := 3) 0 dX6_rest_3 rfl ?_
      refine X_aload_n (pc := 5) 1 dX6_rest_5 rfl rfl ?_
      refine X_getfield (pc := 6) dX6_rest_6 fg_X6_7_4 c2 (by first | rfl | assumption) ?_
      refine X_cge (pc := 9) 24 dX6_rest_9 (by decide) (by omega) (by omega) (fun c => absurd c (by omega)) (fun _ => ?_)
      refine X_aload (pc := 12) 5 dX6_rest_12 rfl ?_
      refine X_iload (pc := 14) 0 dX6_rest_14 rfl ?_
      refine X_iconst (pc := 16) (x := 0) dX6_rest_16 (by decide) ?_
      refine X_iastore (pc := 17) dX6_rest_17 c1 b1 ?_
      refine X_iinc (pc := 18) (L' := [(5, .int (_ + 1)), (0, .ref _), (1, .ref _), (2, .int _), (3, .int _), (4, .ref _)]) 0 dX6_rest_18 rfl rfl (Nat.le_of_ble_eq_true rfl) rfl ?_
      refine X_goto (pc := 21) 3 dX6_rest_21 (by decide) ?_
      rw [ci, hset_hset, show nI i + 1 = nI (i + 1) from nI_add i 1]
      refine ih (i + 1) (by omega) _ (fun j hj => ?_)
      by_cases e : j = i
      · exact if_pos e
      · exact (if_neg e).trans (hz j (by omega))
  obtain ⟨ft, ht, -⟩ := w.getG st
  refine X_iconst (pc := 0) (x := 0) dX6_rest_0 (by decide) ?_
  refine X_istore (pc := 1) (L' := [(5, .int _), (0, .ref _), (1, .ref _), (2, .int _), (3, .int _), (4, .ref _)]) dX6_rest_1 (Nat.le_of_ble_eq_true rfl) rfl ?_
  have := zeros (p + 1) 0 (by omega) ft (fun j hj => absurd hj (by omega))
  rw [hset_same ht] at this
  exact this
end Mod
/-- a number's bytes are written; what the row is then is told by its cell -/
theorem xwriteW (g : GX) (w : XW kd A X R S O F h) {a n v kt nt fr many : Nat} (oa : OpX kd A h a n v) (hkt : kd kt = (6, 2, nt)) (hn : n < 2 ^ 20) (hnt : nt < 2 ^ 31) (h1 : fr + many ≤ nt) (h2 : many ≤ 4 * n) :
    MT g MX6_write ({ frames := 0, cells := 0, slots := 0, locals := 0 } : Room) [.ref a, .ref (A kt), .int (nI fr), .int (nI many)] h (RV fun h' => ∃ f, h (A kt) = some (Ai false 2 nt f) ∧ PL f (S kt) ∧ h' = hset h (A kt) (Ai false 2 nt (stF v fr many f))) := by
  obtain ⟨fa, ha, rfl, -⟩ := oa
  obtain ⟨ft, ht, hp, -⟩ := w.s kt hkt
  exact MT.mono (xwrite_ok g ha ht hn h1 hnt h2) (fun o h' q => ⟨q.1, ft, ht, hp, q.2⟩)
/-- bytes behind the known ones -/
theorem xwriteA (g : GX) (w : XW kd A X R S O F h) {a n v kt nt many : Nat} (oa : OpX kd A h a n v) (hkt : kd kt = (6, 2, nt)) (hn : n < 2 ^ 20) (hnt : nt < 2 ^ 31) (h1 : (S kt).length + many ≤ nt) (h2 : many ≤ 4 * n) :
    MT g MX6_write ({ frames := 0, cells := 0, slots := 0, locals := 0 } : Room) [.ref a, .ref (A kt), .int (nI (S kt).length), .int (nI many)] h (RV fun h' => XW kd A X R (up S kt (S kt ++ byN v many)) O F h') :=
  MT.mono (xwriteW g w oa hkt hn hnt h1 h2) (fun o h' q => by
    obtain ⟨e, f, -, hp, rfl⟩ := q
    exact ⟨e, w.setS kt hkt (PL_sto hp) (by rw [List.length_append, show (byN v many).length = many by unfold byN osB; rw [List.length_map, List.length_range]]; exact h1)⟩)
/-- some bytes of a row may be known -/
theorem XW.learn (w : XW kd A X R S O F h) {k n : Nat} (hk : kd k = (6, 2, n)) (m : Nat) (hm : m ≤ n) : ∃ l, l.length = m ∧ XW kd A X R (up S k l) O F h := by
  obtain ⟨f, hf, -, -⟩ := w.s k hk
  refine ⟨(List.range m).map f, by rw [List.length_map, List.length_range], ?_⟩
  have := w.setS k hk (l := (List.range m).map f) (f := f) (fun j hj => by
    rw [List.length_map, List.length_range] at hj
    rw [getD_map_range hj]) (by rw [List.length_map, List.length_range]; exact hm)
  rw [hset_same hf] at this
  exact this
theorem XW.cutS (w : XW kd A X R S O F h) {k t n : Nat} (hk : kd k = (6, t, n)) (m : Nat) : XW kd A X R (up S k ((S k).take m)) O F h := by
  obtain ⟨f, hf, hp, hl⟩ := w.s k hk
  have := w.setS k hk (l := (S k).take m) (f := f) (fun j hj => by
    rw [List.length_take] at hj
    rw [hp j (by omega), List.getD_eq_getElem?_getD, List.getD_eq_getElem?_getD, List.getElem?_take, if_pos (by omega)]) (by rw [List.length_take]; omega)
  rw [hset_same hf] at this
  exact this
theorem XW.nilS (w : XW kd A X R S O F h) {k t n : Nat} (hk : kd k = (6, t, n)) : XW kd A X R (up S k []) O F h := by
  have := w.cutS hk 0
  rw [List.take_zero] at this
  exact this
end XR6
