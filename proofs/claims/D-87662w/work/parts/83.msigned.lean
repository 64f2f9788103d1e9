set_option maxRecDepth 100000
/-! the reference: whether a number is a right signature -/
def osB (v size : Nat) : List Int32 := (List.range size).map fun j => tb (v / 256 ^ (size - 1 - j))
noncomputable def osX (v db : Nat) : List Int32 := (List.range db).map fun j => tb (u32 ((osB v (db + 49)).getD j 0 ^^^ mskB (sub (osB v (db + 49)) db 48) j))
noncomputable def osY (v db c : Nat) : List Int32 := (osX v db).set 0 (tb (u32 ((osX v db).getD 0 0 &&& tb c)))
/-- the code of an input -/
noncomputable def sgOk (inp : List Int32) (v db s c : Nat) : Prop :=
  v < 256 ^ (db + 49) ∧ (osB v (db + 49)).getD (db + 48) 0 = -68 ∧ ((osB v (db + 49)).getD 0 0 &&& (nI c ^^^ (-1))) &&& 255 = 0 ∧ (∀ j, j < db - s - 1 → (osY v db c).getD j 0 = 0) ∧ (osY v db c).getD (db - s - 1) 0 = 1 ∧
    saltH inp (sub (osY v db c) (db - s) s) = sub (osB v (db + 49)) db 48
theorem osB_len (v size : Nat) : (osB v size).length = size := by unfold osB; rw [List.length_map, List.length_range]
theorem osB_B (v size : Nat) : IsB (osB v size) := IsB.map _ _
theorem osX_len (v db : Nat) : (osX v db).length = db := by unfold osX; rw [List.length_map, List.length_range]
theorem osX_B (v db : Nat) : IsB (osX v db) := IsB.map _ _
theorem osY_len (v db c : Nat) : (osY v db c).length = db := by unfold osY; rw [List.length_set, osX_len]
theorem osY_B (v db c : Nat) : IsB (osY v db c) := (osX_B v db).set _ _
/-- bytes above are 0 just if the number is small -/
theorem hi_bytes {v a : Nat} : ∀ {b}, v < 256 ^ b → (∀ k, a ≤ k → k < b → v / 256 ^ k % 256 = 0) → v < 256 ^ a ∨ b ≤ a
  | 0, _, _ => Or.inr (Nat.zero_le _)
  | b + 1, hv, hz => by
    by_cases c : b + 1 ≤ a
    · exact Or.inr c
    · have h1 := hz b (by omega) (by omega)
      have h2 : v / 256 ^ b < 256 := by
        rw [Nat.div_lt_iff_lt_mul (Nat.pow_pos (by decide)), Nat.mul_comm, ← Nat.pow_succ]
        exact hv
      rw [Nat.mod_eq_of_lt h2] at h1
      have h3 : v < 256 ^ b := by
        rcases Nat.div_eq_zero_iff.mp h1 with z | z
        · exact absurd z (Nat.ne_of_gt (Nat.pow_pos (by decide)))
        · exact z
      rcases hi_bytes h3 (fun k k1 k2 => hz k k1 (by omega)) with z | z
      · exact Or.inl z
      · have : b = a := by omega
        subst this
        exact Or.inl h3
def mixL (X o : Nat → Int32) (i size : Nat) : List Int32 := (List.range size).map fun j => if j < i then X j else o j
theorem mixL_len (X o : Nat → Int32) (i size : Nat) : (mixL X o i size).length = size := by unfold mixL; rw [List.length_map, List.length_range]
theorem mixL_at {X o : Nat → Int32} {i size j : Nat} (hj : j < size) : (mixL X o i size).getD j 0 = if j < i then X j else o j := getD_map_range hj
theorem mixL_set (X o : Nat → Int32) (i size : Nat) : (mixL X o i size).set i (X i) = mixL X o (i + 1) size := by
  apply List.ext_getElem?
  intro j
  unfold mixL
  rw [List.getElem?_set, List.getElem?_map, List.getElem?_map, List.length_map, List.length_range]
  by_cases hj : j < size
  · rw [List.getElem?_range hj, Option.map_some, Option.map_some]
    by_cases e : i = j
    · subst e
      rw [if_pos rfl, if_pos hj, if_pos (by omega)]
    · rw [if_neg e]
      by_cases c : j < i
      · rw [if_pos c, if_pos (by omega)]
      · rw [if_neg c, if_neg (by omega)]
  · rw [List.getElem?_eq_none (by rw [List.length_range]; omega)]
    by_cases e : i = j
    · subst e
      rw [if_pos rfl, if_neg hj]
      rfl
    · rw [if_neg e]
      rfl
theorem set0_at {l : List Int32} {x : Int32} {j : Nat} (hl : 0 < l.length) : (l.set 0 x).getD j 0 = if j = 0 then x else l.getD j 0 := by
  rw [List.getD_eq_getElem?_getD, List.getElem?_set]
  by_cases e : j = 0
  · subst e
    rw [if_pos rfl, if_pos hl, if_pos rfl]
    rfl
  · rw [if_neg (fun z => e z.symm), if_neg e, List.getD_eq_getElem?_getD]
theorem byte_le {v size j : Nat} (hj : j < size) : (osB v size).getD j 0 = tb (v / 256 ^ (size - 1 - j)) := getD_map_range hj
theorem and255 (x : Int32) : x &&& 255 = 0 ↔ u32 x % 256 = 0 := by
  have e : x &&& 255 = nI (u32 x % 256) := pk_and x (m := 255) 8 rfl
  rw [e]
  constructor
  · intro z
    exact nI_inj' (b := 0) (by have := Nat.mod_lt (u32 x) (show 256 > 0 by decide); omega) (by decide) z
  · intro z
    rw [z]
    rfl
section MSg
variable {A : Nat → Nat} {X : AH} {R : Nat → Nat} {I : Nat → Nat → Int32} {S : Nat → List Int32} {F : Nat → Int32} {h : AH}
set_option maxHeartbeats 16000000 in
theorem isSigned_ok (g : GX) (w : MW A X R I S F h) (h26 : F 26 = 0) {key n sh s e mv ki ni fr db : Nat} (hkey : key < 6) (hm : MoS I F (2 + key) n mv) (hmv : 1 < mv) (hn : F (542 + key) = nI n) (hsh : F (552 + key) = nI sh) (hn2 : 0 < n ∧ n ≤ 64) (hsh2 : sh < 32) (hs : I 69 key = nI s) (hs2 : s ≤ 48) (he : I 67 key = nI e) (he2 : e < 2 ^ 17) (hdb : esz (btN n sh) = db + 49) (hdb2 : s + 1 ≤ db) (hdb3 : db + 49 ≤ 4 * n)
    (hki : kdM ki = (6, 2, ni)) (hni : ni < 2 ^ 31) (hi2 : rK ki = false) (hiB : IsB (S ki)) (hfr : fr + 98 ≤ (S ki).length) :
    MT g MX10_isSigned ({ frames := 6, cells := 0, slots := 0, locals := 161 } : Room) [.ref (A 96), .int (nI key), .ref (A ki), .int (nI fr), .ref (A 88)] h (RI fun r h' => ∃ S' f, MW A X R (up I 90 f) S' F h' ∧ (∀ j, rK j = false → S' j = S j) ∧
      ((r = 1 ∧ V n (I 88) < mv ∧ sgOk (sub (S ki) fr 98) (V n (I 88) ^ e % mv) db s (clr (btN n sh))) ∨ (r = 0 ∧ ¬ (V n (I 88) < mv ∧ sgOk (sub (S ki) fr 98) (V n (I 88) ^ e % mv) db s (clr (btN n sh)))))) := by
  refine MT.of (by decide) (Nat.le_of_ble_eq_true rfl) ?_
  generalize hcond : (V n (I 88) < mv ∧ sgOk (sub (S ki) fr 98) (V n (I 88) ^ e % mv) db s (clr (btN n sh))) = cond
  have hcl : clr (btN n sh) < 256 := by unfold clr; exact Nat.lt_of_le_of_lt (Nat.div_le_self _ _) (by decide)
  generalize hc : clr (btN n sh) = c at *
  generalize hPost : (RI fun r h' => ∃ S' f, MW A X R (up I 90 f) S' F h' ∧ (∀ j, rK j = false → S' j = S j) ∧ ((r = 1 ∧ cond) ∨ (r = 0 ∧ ¬ cond))) = Post
  have no : ∀ S' f h', MW A X R (up I 90 f) S' F h' → (∀ j, rK j = false → S' j = S j) → ¬ cond → Post (.returned (some (.int 0))) h' := by
    intro S' f h' w' fS nc
    subst hPost
    exact ⟨0, rfl, S', f, w', fS, Or.inr ⟨rfl, nc⟩⟩
  have hF : up F 26 0 = F := by
    have := up_id F 26
    rwa [h26] at this
  have hshn : sh < 32 * n := by omega
  have bk : vp_in (nI key) 6 := vp_in_nI (by omega) (by omega)
  have ck : (nI key).toNatClampNeg = key := nI_clamp (by omega)
  have md : ∀ {I' S' h'}, MW A X R I' S' F h' → h' (A (502 + key)) = some (Ob 12 [.ref (A (510 + (2 + key))), .ref (A (520 + (2 + key))), .int (nI n), .int (nI sh)]) := by
    intro I' S' h' w'
    have := w'.md (j := 2 + key) (by omega) (by omega)
    rwa [show 500 + (2 + key) = 502 + key by omega, show 540 + (2 + key) = 542 + key by omega, show 550 + (2 + key) = 552 + key by omega, hn, hsh] at this
  have hmV : V n (I (510 + (2 + key))) = mv := by
    rcases hm with ⟨z, -, -⟩ | ⟨z, -, -⟩ | ⟨-, -, s', -, -, -, z, -⟩
    · omega
    · omega
    · exact z
  have k510 := (kd_m (j := 2 + key) (by omega) (by omega)).2.1
  have sub1 : nI (db + 49) - 49 = nI db := by rw [show nI (db + 49) - 49 = nI (db + 49) - nI 49 from rfl, pk_sub (by omega), Nat.add_sub_cancel]
  have sub2 : nI db - nI s = nI (db - s) := pk_sub (by omega)
  have sub3 : nI (db - s) - 1 = nI (db - s - 1) := by rw [show db - s = db - s - 1 + 1 by omega, nI_pred, Nat.add_sub_cancel]
  have sub4 : nI (db + 49) - 1 = nI (db + 48) := nI_pred (db + 48)
  have o88 : ∀ {S' h'}, MW A X R I S' F h' → OpM A h' (A 88) n (V n (I 88)) := fun w' => OpM.i w' 88 rfl hn2.2 (by decide)
  have om : OpM A h (A (510 + (2 + key))) n mv := by
    have := OpM.i w (510 + (2 + key)) k510 hn2.2 (by decide)
    rwa [hmV] at this
  have hmd := md w
  -- the last loop
  have loopD : ∀ (E inn : List Int32) (f : Nat → Int32) (S' : Nat → List Int32) (h' : AH), MW A X R (up I 90 f) S' F h' → (∀ j, rK j = false → S' j = S j) → S' 85 = E → S' 87 = inn → inn.length = 48 → E.length = db + 49 → ((∀ j, j < 48 → inn.getD j 0 = E.getD (db + j) 0) ↔ cond) →
      ∀ m i, i + m = 48 → ∀ y : Int32, ((y = 1 ∧ ∀ j, j < i → inn.getD j 0 = E.getD (db + j) 0) ∨ (y = 0 ∧ ¬ ∀ j, j < i → inn.getD j 0 = E.getD (db + j) 0)) →
      XX g MX10_isSigned ({ frames := 6, cells := 0, slots := 0, locals := 161 } : Room) Post 0 0 296 [(10, .int (nI i)), (9, .int y), (8, .int (nI s)), (7, .int (nI db)), (6, .int (nI (db + 49))), (5, .ref (A (502 + key))), (0, .ref (A 96)), (1, .int (nI key)), (2, .ref (A ki)), (3, .int (nI fr)), (4, .ref (A 88))] [] h' := by
    intro E inn f S' h' w' fS s85 s87 hil hEl hiff m
    induction m with
    | zero =>
      intro i hi y hy
      have ei : i = 48 := by omega
      subst ei
      refine X_iload (pc := 296) 0 dX10_isSigned_296 rfl ?_
      refine X_bipush (pc := 298) (x := 48) dX10_isSigned_298 (by decide) ?_
      refine X_cge (a := 48) (b := 48) (pc := 300) 341 dX10_isSigned_300 (by decide) (by omega) (by omega) (fun _ => ?_) (fun c => absurd c (by omega))
      refine X_iload (pc := 341) 1 dX10_isSigned_341 rfl ?_
      rcases hy with ⟨rfl, hy⟩ | ⟨rfl, hy⟩
      · refine X_zreturn (pc := 343) dX10_isSigned_343 rfl (by first | exact Or.inl rfl | exact Or.inr rfl | assumption | exact zo_if) (Nat.le_of_ble_eq_true rfl) (Nat.le_of_ble_eq_true rfl) ?_
        subst hPost
        exact ⟨1, rfl, S', f, w', fS, Or.inl ⟨rfl, hiff.mp hy⟩⟩
      · refine X_zreturn (pc := 343) dX10_isSigned_343 rfl (by first | exact Or.inl rfl | exact Or.inr rfl | assumption | exact zo_if) (Nat.le_of_ble_eq_true rfl) (Nat.le_of_ble_eq_true rfl) ?_
        exact no S' f h' w' fS (fun z => hy (hiff.mpr z))
    | succ m ih =>
      intro i hi y hy
      have fin : ∀ y' : Int32, ((y' = 1 ∧ ∀ j, j < i + 1 → inn.getD j 0 = E.getD (db + j) 0) ∨ (y' = 0 ∧ ¬ ∀ j, j < i + 1 → inn.getD j 0 = E.getD (db + j) 0)) →
          XX g MX10_isSigned ({ frames := 6, cells := 0, slots := 0, locals := 161 } : Room) Post 0 0 333 [(10, .int (nI i)), (9, .int y), (8, .int (nI s)), (7, .int (nI db)), (6, .int (nI (db + 49))), (5, .ref (A (502 + key))), (0, .ref (A 96)), (1, .int (nI key)), (2, .ref (A ki)), (3, .int (nI fr)), (4, .ref (A 88))] [.int y'] h' := by
        intro y' hy'
        refine X_istore (pc := 333) (L' := [(9, .int _), (10, .int _), (8, .int _), (7, .int _), (6, .int _), (5, .ref _), (0, .ref _), (1, .int _), (2, .ref _), (3, .int _), (4, .ref _)]) dX10_isSigned_333 (Nat.le_of_ble_eq_true rfl) rfl ?_
        refine X_iinc (pc := 335) (L' := [(10, .int (_ + 1)), (9, .int _), (8, .int _), (7, .int _), (6, .int _), (5, .ref _), (0, .ref _), (1, .int _), (2, .ref _), (3, .int _), (4, .ref _)]) 1 dX10_isSigned_335 rfl rfl (Nat.le_of_ble_eq_true rfl) rfl ?_
        refine X_goto (pc := 338) 296 dX10_isSigned_338 (by decide) ?_
        rw [show nI i + 1 = nI (i + 1) from nI_add i 1]
        exact ih (i + 1) (by omega) y' hy'
      obtain ⟨f85, c85, p85, -⟩ := w'.s 85 rfl
      obtain ⟨f87, c87, p87, -⟩ := w'.s 87 rfl
      rw [s85] at p85
      rw [s87] at p87
      have b5 : vp_in (nI (db + i)) 260 := vp_in_nI (by omega) (by omega)
      have c5 : (nI (db + i)).toNatClampNeg = db + i := nI_clamp (by omega)
      have b6 : vp_in (nI i) 48 := vp_in_nI (by omega) (by omega)
      have c6 : (nI i).toNatClampNeg = i := nI_clamp (by omega)
      refine X_iload (pc := 296) 0 dX10_isSigned_296 rfl ?_
      refine X_bipush (pc := 298) (x := 48) dX10_isSigned_298 (by decide) ?_
      refine X_cge (b := 48) (pc := 300) 341 dX10_isSigned_300 (by decide) (by omega) (by omega) (fun c => absurd c (by omega)) (fun _ => ?_)
      refine X_iload (pc := 303) 1 dX10_isSigned_303 rfl ?_
      rcases hy with ⟨rfl, hy⟩ | ⟨rfl, hy⟩
      · refine X_if_eq (pc := 305) 332 dX10_isSigned_305 (by decide) (fun z => absurd z (by decide)) (fun _ => ?_)
        refine X_aload_n (pc := 308) 6 dX10_isSigned_308 rfl rfl ?_
        refine X_getfield (pc := 309) dX10_isSigned_309 fg_X10_546_11 (MW.ob w') mf_87 ?_
        refine X_iload (pc := 312) 0 dX10_isSigned_312 rfl ?_
        refine X_baload (pc := 314) dX10_isSigned_314 c87 b6 ?_
        refine X_aload_n (pc := 315) 6 dX10_isSigned_315 rfl rfl ?_
        refine X_getfield (pc := 316) dX10_isSigned_316 fg_X10_540_11 (MW.ob w') mf_85 ?_
        refine X_iload (pc := 319) 3 dX10_isSigned_319 rfl ?_
        refine X_iload (pc := 321) 0 dX10_isSigned_321 rfl ?_
        refine X_iadd (pc := 323) dX10_isSigned_323 ?_
        rw [nI_add]
        refine X_baload (pc := 324) dX10_isSigned_324 c85 b5 ?_
        rw [c5, c6, p85 _ (by omega), p87 _ (by omega)]
        by_cases ce : inn.getD i 0 = E.getD (db + i) 0
        · refine X_icmp_ne (pc := 325) 332 dX10_isSigned_325 (by decide) (fun z => absurd ce z) (fun _ => ?_)
          refine X_iconst (pc := 328) (x := 1) dX10_isSigned_328 (by decide) ?_
          refine X_goto (pc := 329) 333 dX10_isSigned_329 (by decide) ?_
          refine fin 1 (Or.inl ⟨rfl, fun j hj => ?_⟩)
          by_cases ej : j = i
          · rw [ej]; exact ce
          · exact hy j (by omega)
        · refine X_icmp_ne (pc := 325) 332 dX10_isSigned_325 (by decide) (fun _ => ?_) (fun z => absurd z ce)
          refine X_iconst (pc := 332) (x := 0) dX10_isSigned_332 (by decide) ?_
          exact fin 0 (Or.inr ⟨rfl, fun z => ce (z i (by omega))⟩)
      · refine X_if_eq (pc := 305) 332 dX10_isSigned_305 (by decide) (fun _ => ?_) (fun z => absurd rfl z)
        refine X_iconst (pc := 332) (x := 0) dX10_isSigned_332 (by decide) ?_
        exact fin 0 (Or.inr ⟨rfl, fun z => hy fun j hj => z j (by omega)⟩)
  refine X_aload_n (pc := 0) 0 dX10_isSigned_0 rfl rfl ?_
  refine X_getfield (pc := 1) dX10_isSigned_1 fg_X10_503_11 (MW.ob w) mf_66 ?_
  refine X_iload_n (pc := 4) 1 dX10_isSigned_4 rfl rfl ?_
  refine X_aaload (pc := 5) dX10_isSigned_5 (w.o 66 rfl) (fun _ => rfl) bk ?_
  rw [ck]
  refine XX.eqst (st' := [.ref (A (502 + key))]) rfl ?_
  refine X_astore (pc := 6) (L' := [(5, .ref _), (0, .ref _), (1, .int _), (2, .ref _), (3, .int _), (4, .ref _)]) dX10_isSigned_6 (Nat.le_of_ble_eq_true rfl) rfl ?_
  refine X_aload (pc := 8) 5 dX10_isSigned_8 rfl ?_
  refine X_aload (pc := 10) 0 dX10_isSigned_10 rfl ?_
  refine X_getfield (pc := 12) dX10_isSigned_12 fg_X10_22_12 hmd (by first | rfl | assumption) ?_
  refine X_aload (pc := 15) 0 dX10_isSigned_15 rfl ?_
  refine X_getfield (pc := 17) dX10_isSigned_17 fg_X10_13_12 hmd (by first | rfl | assumption) ?_
  refine X_isi (pc := 20) _ dX10_isSigned_20 cs_X10_26 rfl (mcW g (n := n) (o88 w) om) nX10_compare (Nat.le_of_ble_eq_true rfl) (Nat.le_of_ble_eq_true rfl) (Nat.le_of_ble_eq_true rfl) (Nat.le_of_ble_eq_true rfl) (fun r1 h1 q1 => ?_)
  obtain ⟨rfl, rfl⟩ := q1
  by_cases cv : V n (I 88) < mv
  · skip
    refine X_if_lt (pc := 23) 28 dX10_isSigned_23 (by decide) (fun _ => ?_) (fun z => absurd (cmpN_lt0.mpr cv) z)
    have hcond2 : cond ↔ sgOk (sub (S ki) fr 98) (V n (I 88) ^ e % mv) db s c := by rw [← hcond]; exact ⟨fun z => z.2, fun z => ⟨cv, z⟩⟩
    have a91 : A 88 ≠ A 91 := w.ne (by decide) (by decide) (by decide)
    refine X_aload_n (pc := 28) 1 dX10_isSigned_28 rfl rfl ?_
    refine X_iload_n (pc := 29) 2 dX10_isSigned_29 rfl rfl ?_
    refine X_aload (pc := 30) 5 dX10_isSigned_30 rfl ?_
    refine X_aload_n (pc := 32) 1 dX10_isSigned_32 rfl rfl ?_
    refine X_getfield (pc := 33) dX10_isSigned_33 fg_X10_555_11 (MW.ob w) mf_90 ?_
    refine X_ivv (pc := 36) _ dX10_isSigned_36 cv_X10_602_11 (MW.ob w) rfl (byE_ok g w (k := 90) hkey hm hmv hn2 (o88 w) a91 he he2 rfl) nX10_byE (Nat.le_of_ble_eq_true rfl) (Nat.le_of_ble_eq_true rfl) (Nat.le_of_ble_eq_true rfl) (Nat.le_of_ble_eq_true rfl) (fun h2 q2 => ?_)
    obtain ⟨fc, hvc, w2⟩ := q2
    generalize hv : V n (I 88) ^ e % mv = v at *
    have hmd2 := md w2
    refine X_aload (pc := 39) 0 dX10_isSigned_39 rfl ?_
    refine X_isi (pc := 41) _ dX10_isSigned_41 cs_X10_588 rfl (esz_ok g hmd2 hshn hn2.2) nX10_encodedSize (Nat.le_of_ble_eq_true rfl) (Nat.le_of_ble_eq_true rfl) (Nat.le_of_ble_eq_true rfl) (Nat.le_of_ble_eq_true rfl) (fun r2 h3 q3 => ?_)
    obtain ⟨rfl, rfl⟩ := q3
    rw [hdb]
    refine X_istore (pc := 44) (L' := [(6, .int _), (5, .ref _), (0, .ref _), (1, .int _), (2, .ref _), (3, .int _), (4, .ref _)]) dX10_isSigned_44 (Nat.le_of_ble_eq_true rfl) rfl ?_
    refine X_iload (pc := 46) 0 dX10_isSigned_46 rfl ?_
    refine X_istore (pc := 48) (L' := [(7, .int _), (6, .int _), (5, .ref _), (0, .ref _), (1, .int _), (2, .ref _), (3, .int _), (4, .ref _)]) dX10_isSigned_48 (Nat.le_of_ble_eq_true rfl) rfl ?_
    have c90 : h3 (A 90) = some (Ai false 0 64 fc) := by
      have := w2.i 90 rfl
      rwa [up_same] at this
    -- the bytes above
    have loopA : ∀ m k, k + m = 4 * n → db + 49 ≤ k → (∀ q, db + 49 ≤ q → q < k → v / 256 ^ q % 256 = 0) →
        XX g MX10_isSigned ({ frames := 6, cells := 0, slots := 0, locals := 161 } : Room) Post 0 0 50 [(7, .int (nI k)), (6, .int (nI (db + 49))), (5, .ref (A (502 + key))), (0, .ref (A 96)), (1, .int (nI key)), (2, .ref (A ki)), (3, .int (nI fr)), (4, .ref (A 88))] [] h3 := by
      intro m
      induction m with
      | zero =>
        intro k hk hk2 hz
        have hvn : v < 256 ^ (4 * n) := by rw [← hvc, show (256 : Nat) = 2 ^ 8 from rfl, ← Nat.pow_mul, show 8 * (4 * n) = 32 * n by omega]; exact V_lt _ _
        have hvs : v < 256 ^ (db + 49) := by
          rcases hi_bytes (a := db + 49) hvn (fun q q1 q2 => hz q q1 (by omega)) with z | z
          · exact z
          · have : 4 * n = db + 49 := by omega
            rwa [this] at hvn
        refine X_iload (pc := 50) 0 dX10_isSigned_50 rfl ?_
        refine X_iconst (pc := 52) (x := 4) dX10_isSigned_52 (by decide) ?_
        refine X_aload (pc := 53) 2 dX10_isSigned_53 rfl ?_
        refine X_getfield (pc := 55) dX10_isSigned_55 fg_X10_13_12 hmd2 (by first | rfl | assumption) ?_
        refine X_imul (pc := 58) dX10_isSigned_58 ?_
        rw [show (4 : Int32) * nI n = nI (4 * n) from pk_mul 4 n]
        refine X_cge (pc := 59) 94 dX10_isSigned_59 (by decide) (by omega) (by omega) (fun _ => ?_) (fun z => absurd z (by omega))
        obtain ⟨f85, c85, -, -⟩ := w2.s 85 rfl
        refine X_aload_n (pc := 94) 3 dX10_isSigned_94 rfl rfl ?_
        refine X_getfield (pc := 95) dX10_isSigned_95 fg_X10_555_11 (MW.ob w2) mf_90 ?_
        refine X_aload_n (pc := 98) 3 dX10_isSigned_98 rfl rfl ?_
        refine X_getfield (pc := 99) dX10_isSigned_99 fg_X10_540_11 (MW.ob w2) mf_85 ?_
        refine X_iconst (pc := 102) (x := 0) dX10_isSigned_102 (by decide) ?_
        refine X_iload (pc := 103) 1 dX10_isSigned_103 rfl ?_
        refine X_isv (pc := 105) _ dX10_isSigned_105 cs_X10_232 rfl (store_ok g (n := n) (fr := 0) (many := db + 49) c90 c85 hn2.2 (by decide) (by omega) (by decide) hdb3) nX10_store (Nat.le_of_ble_eq_true rfl) (Nat.le_of_ble_eq_true rfl) (Nat.le_of_ble_eq_true rfl) (Nat.le_of_ble_eq_true rfl) (fun h4 q4 => ?_)
        subst q4
        rw [hvc]
        have w4 := w2.setS 85 rfl (l := osB v (db + 49)) (f := stF v 0 (db + 49) f85) (fun j hj => by
          rw [osB_len] at hj
          rw [byte_le hj]
          unfold stF
          rw [if_pos (by omega), Nat.zero_add]) (by rw [osB_len]; omega)
        generalize hset h3 (A 85) (Ai false 2 260 (stF v 0 (db + 49) f85)) = h4 at *
        have hol := osB_len v (db + 49)
        have hoB := osB_B v (db + 49)
        have hmd4 := md w4
        generalize hoo : osB v (db + 49) = o at *
        obtain ⟨g85, d85, p85, -⟩ := w4.s 85 rfl
        rw [up_same] at p85
        have b48 : vp_in (nI (db + 48)) 260 := vp_in_nI (by omega) (by omega)
        have c48 : (nI (db + 48)).toNatClampNeg = db + 48 := nI_clamp (by omega)
        have b0 : vp_in (0 : Int32) 260 := vp_in_nI (n := 0) (by decide) (by decide)
        have fS4 : ∀ S0 : Nat → List Int32, (∀ j, rK j = false → S0 j = S j) → ∀ l, ∀ j, rK j = false → (up S0 85 l) j = S j := fun S0 h0 l j hj => by rw [up_ne (rK_ne hj rfl)]; exact h0 j hj
        refine X_iload (pc := 108) 1 dX10_isSigned_108 rfl ?_
        refine X_bipush (pc := 110) (x := 49) dX10_isSigned_110 (by decide) ?_
        refine X_isub (pc := 112) dX10_isSigned_112 ?_
        rw [sub1]
        refine X_istore (pc := 113) (L' := [(7, .int _), (6, .int _), (5, .ref _), (0, .ref _), (1, .int _), (2, .ref _), (3, .int _), (4, .ref _)]) dX10_isSigned_113 (Nat.le_of_ble_eq_true rfl) rfl ?_
        refine X_aload_n (pc := 115) 3 dX10_isSigned_115 rfl rfl ?_
        refine X_getfield (pc := 116) dX10_isSigned_116 fg_X10_513_11 (MW.ob w4) mf_69 ?_
        refine X_iload_n (pc := 119) 4 dX10_isSigned_119 rfl rfl ?_
        refine X_iaload (pc := 120) dX10_isSigned_120 (w4.i 69 rfl) bk ?_
        rw [ck, up_ne (show 69 ≠ 90 by decide), hs]
        refine X_istore (pc := 121) (L' := [(8, .int _), (7, .int _), (6, .int _), (5, .ref _), (0, .ref _), (1, .int _), (2, .ref _), (3, .int _), (4, .ref _)]) dX10_isSigned_121 (Nat.le_of_ble_eq_true rfl) rfl ?_
        refine X_aload_n (pc := 123) 4 dX10_isSigned_123 rfl rfl ?_
        refine X_getfield (pc := 124) dX10_isSigned_124 fg_X10_540_11 (MW.ob w4) mf_85 ?_
        refine X_iload (pc := 127) 2 dX10_isSigned_127 rfl ?_
        refine X_iconst (pc := 129) (x := 1) dX10_isSigned_129 (by decide) ?_
        refine X_isub (pc := 130) dX10_isSigned_130 ?_
        rw [sub4]
        refine X_baload (pc := 131) dX10_isSigned_131 d85 b48 ?_
        refine X_bipush (pc := 132) (x := (-68)) dX10_isSigned_132 (by decide) ?_
        rw [c48, p85 _ (by omega)]
        by_cases e1 : o.getD (db + 48) 0 = -68
        · skip
          refine X_icmp_ne (pc := 134) 158 dX10_isSigned_134 (by decide) (fun z => absurd e1 z) (fun _ => ?_)
          refine X_aload_n (pc := 137) 4 dX10_isSigned_137 rfl rfl ?_
          refine X_getfield (pc := 138) dX10_isSigned_138 fg_X10_540_11 (MW.ob w4) mf_85 ?_
          refine X_iconst (pc := 141) (x := 0) dX10_isSigned_141 (by decide) ?_
          refine X_baload (pc := 142) dX10_isSigned_142 d85 b0 ?_
          refine X_aload (pc := 143) 3 dX10_isSigned_143 rfl ?_
          refine X_isi (pc := 145) _ dX10_isSigned_145 cs_X10_599 rfl (clr_ok g hmd4 hshn hn2.2) nX10_clear (Nat.le_of_ble_eq_true rfl) (Nat.le_of_ble_eq_true rfl) (Nat.le_of_ble_eq_true rfl) (Nat.le_of_ble_eq_true rfl) (fun r5 h5 q5 => ?_)
          obtain ⟨rfl, rfl⟩ := q5
          rw [hc, show ((0 : Int32).toNatClampNeg) = 0 from rfl, p85 0 (by omega)]
          refine X_iconst (pc := 148) (x := (-1)) dX10_isSigned_148 (by decide) ?_
          refine X_ixor (pc := 149) dX10_isSigned_149 ?_
          refine X_iand (pc := 150) dX10_isSigned_150 ?_
          refine X_sipush (pc := 151) (x := 255) dX10_isSigned_151 (by decide) ?_
          refine X_iand (pc := 154) dX10_isSigned_154 ?_
          by_cases e2 : (o.getD 0 0 &&& (nI c ^^^ (-1))) &&& 255 = 0
          · skip
            refine X_if_eq (pc := 155) 160 dX10_isSigned_155 (by decide) (fun _ => ?_) (fun z => absurd e2 z)
            refine X_aload_n (pc := 160) 4 dX10_isSigned_160 rfl rfl ?_
            refine X_aload_n (pc := 161) 4 dX10_isSigned_161 rfl rfl ?_
            refine X_getfield (pc := 162) dX10_isSigned_162 fg_X10_540_11 (MW.ob w4) mf_85 ?_
            refine X_iload (pc := 165) 1 dX10_isSigned_165 rfl ?_
            refine X_iload (pc := 167) 1 dX10_isSigned_167 rfl ?_
            refine X_ivv (pc := 169) _ dX10_isSigned_169 cv_X10_596_11 (MW.ob w4) rfl (masks_ok g w4 h26 (kb := 85) (at' := db) (many := db) rfl (by decide) rfl (by rw [up_same]; exact hoB) (by rw [up_same, hol]; omega) (by omega)) nX10_masks (Nat.le_of_ble_eq_true rfl) (Nat.le_of_ble_eq_true rfl) (Nat.le_of_ble_eq_true rfl) (Nat.le_of_ble_eq_true rfl) (fun h6 q6 => ?_)
            obtain ⟨S6, w6, fS6, s86⟩ := q6
            rw [up_same] at s86
            have s85 : S6 85 = o := by rw [fS6 85 rfl, up_same]
            have fS6' : ∀ j, rK j = false → S6 j = S j := fun j hj => by rw [fS6 j (rK_m hj), up_ne (rK_ne hj rfl)]
            have hxd : ∀ j, j < db → (osX v db).getD j 0 = tb (u32 (o.getD j 0 ^^^ mskB (sub o db 48) j)) := fun j hj => by unfold osX; rw [hoo]; exact getD_map_range hj
            have hxl := osX_len v db
            have hyl := osY_len v db c
            have hyd : osY v db c = (osX v db).set 0 (tb (u32 ((osX v db).getD 0 0 &&& tb c))) := rfl
            have hyB := osY_B v db c
            have hsg : sgOk (sub (S ki) fr 98) v db s c ↔ ((∀ j, j < db - s - 1 → (osY v db c).getD j 0 = 0) ∧ (osY v db c).getD (db - s - 1) 0 = 1 ∧ saltH (sub (S ki) fr 98) (sub (osY v db c) (db - s) s) = sub o db 48) := by
              unfold sgOk
              rw [hoo]
              exact ⟨fun z => z.2.2.2, fun z => ⟨hvs, e1, e2, z⟩⟩
            have hxd' : ∀ j, j < db → tb (u32 (o.getD j 0 ^^^ mskB (sub o db 48) j)) = (osX v db).getD j 0 := fun j hj => (hxd j hj).symm
            generalize osY v db c = Y at *
            generalize osX v db = Xl at *
            generalize hmk : sub o db 48 = mk at *
            -- behind the masks
            have tail : ∀ (S' : Nat → List Int32) (h' : AH) (E : List Int32), MW A X R (up I 90 fc) S' F h' → (∀ j, rK j = false → S' j = S j) → S' 85 = E → E.length = db + 49 → IsB E → (∀ j, j < db → E.getD j 0 = Y.getD j 0) → (∀ j, j < 48 → E.getD (db + j) 0 = o.getD (db + j) 0) →
                ∀ m i, i + m = db - s - 1 → (∀ j, j < i → Y.getD j 0 = 0) →
                XX g MX10_isSigned ({ frames := 6, cells := 0, slots := 0, locals := 161 } : Room) Post 0 0 225 [(9, .int (nI i)), (8, .int (nI s)), (7, .int (nI db)), (6, .int (nI (db + 49))), (5, .ref (A (502 + key))), (0, .ref (A 96)), (1, .int (nI key)), (2, .ref (A ki)), (3, .int (nI fr)), (4, .ref (A 88))] [] h' := by
              intro S' h' E w' fS s85' hEl hEB hE1 hE2 m
              obtain ⟨f5, c5, p5, -⟩ := w'.s 85 rfl
              rw [s85'] at p5
              induction m with
              | zero =>
                intro i hi hz0
                have bd : vp_in (nI (db - s - 1)) 260 := vp_in_nI (by omega) (by omega)
                have cd : (nI (db - s - 1)).toNatClampNeg = db - s - 1 := nI_clamp (by omega)
                refine X_iload (pc := 225) 0 dX10_isSigned_225 rfl ?_
                refine X_iload (pc := 227) 2 dX10_isSigned_227 rfl ?_
                refine X_iload (pc := 229) 1 dX10_isSigned_229 rfl ?_
                refine X_isub (pc := 231) dX10_isSigned_231 ?_
                refine X_iconst (pc := 232) (x := 1) dX10_isSigned_232 (by decide) ?_
                refine X_isub (pc := 233) dX10_isSigned_233 ?_
                rw [sub2, sub3]
                refine X_cge (pc := 234) 255 dX10_isSigned_234 (by decide) (by omega) (by omega) (fun _ => ?_) (fun z => absurd z (by omega))
                refine X_aload_n (pc := 255) 5 dX10_isSigned_255 rfl rfl ?_
                refine X_getfield (pc := 256) dX10_isSigned_256 fg_X10_540_11 (MW.ob w') mf_85 ?_
                refine X_iload (pc := 259) 2 dX10_isSigned_259 rfl ?_
                refine X_iload (pc := 261) 1 dX10_isSigned_261 rfl ?_
                refine X_isub (pc := 263) dX10_isSigned_263 ?_
                refine X_iconst (pc := 264) (x := 1) dX10_isSigned_264 (by decide) ?_
                refine X_isub (pc := 265) dX10_isSigned_265 ?_
                rw [sub2, sub3]
                refine X_baload (pc := 266) dX10_isSigned_266 c5 bd ?_
                refine X_iconst (pc := 267) (x := 1) dX10_isSigned_267 (by decide) ?_
                rw [cd, p5 _ (by omega), hE1 _ (by omega)]
                by_cases e3 : Y.getD (db - s - 1) 0 = 1
                · skip
                  refine X_icmp_eq (pc := 268) 273 dX10_isSigned_268 (by decide) (fun _ => ?_) (fun z => absurd e3 z)
                  refine X_aload_n (pc := 273) 5 dX10_isSigned_273 rfl rfl ?_
                  refine X_aload_n (pc := 274) 7 dX10_isSigned_274 rfl rfl ?_
                  refine X_iload_n (pc := 275) 8 dX10_isSigned_275 rfl rfl ?_
                  refine X_aload_n (pc := 276) 5 dX10_isSigned_276 rfl rfl ?_
                  refine X_getfield (pc := 277) dX10_isSigned_277 fg_X10_540_11 (MW.ob w') mf_85 ?_
                  refine X_iload (pc := 280) 2 dX10_isSigned_280 rfl ?_
                  refine X_iload (pc := 282) 1 dX10_isSigned_282 rfl ?_
                  refine X_isub (pc := 284) dX10_isSigned_284 ?_
                  rw [sub2]
                  refine X_iload (pc := 285) 1 dX10_isSigned_285 rfl ?_
                  refine X_ivv (pc := 287) _ dX10_isSigned_287 cv_X10_592_11 (MW.ob w') rfl (salted_ok g w' (ki := ki) (fr := fr) (ks := 85) (at' := db - s) (n := s) hki hni (rK_h hi2) (by rw [fS ki hi2]; exact hiB) (by rw [fS ki hi2]; exact hfr) rfl (by decide) rfl (by rw [s85']; exact hEB) (by rw [s85', hEl]; omega) hs2) nX10_salted (Nat.le_of_ble_eq_true rfl) (Nat.le_of_ble_eq_true rfl) (Nat.le_of_ble_eq_true rfl) (Nat.le_of_ble_eq_true rfl) (fun h8 q8 => ?_)
                  obtain ⟨S8, w8, fS8, s87⟩ := q8
                  rw [hF] at w8
                  rw [fS ki hi2, s85'] at s87
                  have hsub : sub E (db - s) s = sub Y (db - s) s := by
                    unfold sub
                    apply List.map_congr_left
                    intro j hj
                    have := List.mem_range.mp hj
                    exact hE1 _ (by omega)
                  rw [hsub] at s87
                  have fS8' : ∀ j, rK j = false → S8 j = S j := fun j hj => by rw [fS8 j (rK_s hj)]; exact fS j hj
                  have s858 : S8 85 = E := by rw [fS8 85 rfl]; exact s85'
                  refine X_iconst (pc := 290) (x := 1) dX10_isSigned_290 (by decide) ?_
                  refine X_istore (pc := 291) (L' := [(9, .int _), (8, .int _), (7, .int _), (6, .int _), (5, .ref _), (0, .ref _), (1, .int _), (2, .ref _), (3, .int _), (4, .ref _)]) dX10_isSigned_291 (Nat.le_of_ble_eq_true rfl) rfl ?_
                  refine X_iconst (pc := 293) (x := 0) dX10_isSigned_293 (by decide) ?_
                  refine X_istore (pc := 294) (L' := [(10, .int _), (9, .int _), (8, .int _), (7, .int _), (6, .int _), (5, .ref _), (0, .ref _), (1, .int _), (2, .ref _), (3, .int _), (4, .ref _)]) dX10_isSigned_294 (Nat.le_of_ble_eq_true rfl) rfl ?_
                  refine loopD E _ fc S8 h8 w8 fS8' s858 s87 (sha384_len _) hEl ?_ 48 0 (by omega) 1 (Or.inl ⟨rfl, fun j hj => absurd hj (by omega)⟩)
                  rw [hcond2, hsg]
                  have hlen : (saltH (sub (S ki) fr 98) (sub Y (db - s) s)).length = 48 := sha384_len _
                  constructor
                  · intro z
                    refine ⟨fun j hj => hz0 j (by omega), e3, ?_⟩
                    rw [← hmk, ← map_getD hlen]
                    unfold sub
                    apply List.map_congr_left
                    intro j hj
                    have := List.mem_range.mp hj
                    rw [show (List.map (fun j => Y.getD (db - s + j) 0) (List.range s)) = sub Y (db - s) s from rfl, show (List.map (fun j => (S ki).getD (fr + j) 0) (List.range 98)) = sub (S ki) fr 98 from rfl, z j this, hE2 j this]
                  · intro z j hj
                    rw [z.2.2, ← hmk, hE2 j hj]
                    unfold sub
                    exact getD_map_range hj
                · refine X_icmp_eq (pc := 268) 273 dX10_isSigned_268 (by decide) (fun z => absurd z e3) (fun _ => ?_)
                  refine X_iconst (pc := 271) (x := 0) dX10_isSigned_271 (by decide) ?_
                  refine X_zreturn (pc := 272) dX10_isSigned_272 rfl (by first | exact Or.inl rfl | exact Or.inr rfl | assumption | exact zo_if) (Nat.le_of_ble_eq_true rfl) (Nat.le_of_ble_eq_true rfl) ?_
                  exact no S' fc h' w' fS (fun z => e3 (hsg.mp (hcond2.mp z)).2.1)
              | succ m ih =>
                intro i hi hz0
                have bi : vp_in (nI i) 260 := vp_in_nI (by omega) (by omega)
                have ci : (nI i).toNatClampNeg = i := nI_clamp (by omega)
                refine X_iload (pc := 225) 0 dX10_isSigned_225 rfl ?_
                refine X_iload (pc := 227) 2 dX10_isSigned_227 rfl ?_
                refine X_iload (pc := 229) 1 dX10_isSigned_229 rfl ?_
                refine X_isub (pc := 231) dX10_isSigned_231 ?_
                refine X_iconst (pc := 232) (x := 1) dX10_isSigned_232 (by decide) ?_
                refine X_isub (pc := 233) dX10_isSigned_233 ?_
                rw [sub2, sub3]
                refine X_cge (pc := 234) 255 dX10_isSigned_234 (by decide) (by omega) (by omega) (fun z => absurd z (by omega)) (fun _ => ?_)
                refine X_aload_n (pc := 237) 5 dX10_isSigned_237 rfl rfl ?_
                refine X_getfield (pc := 238) dX10_isSigned_238 fg_X10_540_11 (MW.ob w') mf_85 ?_
                refine X_iload (pc := 241) 0 dX10_isSigned_241 rfl ?_
                refine X_baload (pc := 243) dX10_isSigned_243 c5 bi ?_
                rw [ci, p5 _ (by omega), hE1 _ (by omega)]
                by_cases e4 : Y.getD i 0 = 0
                · refine X_if_eq (pc := 244) 249 dX10_isSigned_244 (by decide) (fun _ => ?_) (fun z => absurd e4 z)
                  refine X_iinc (pc := 249) (L' := [(9, .int (_ + 1)), (8, .int _), (7, .int _), (6, .int _), (5, .ref _), (0, .ref _), (1, .int _), (2, .ref _), (3, .int _), (4, .ref _)]) 0 dX10_isSigned_249 rfl rfl (Nat.le_of_ble_eq_true rfl) rfl ?_
                  refine X_goto (pc := 252) 225 dX10_isSigned_252 (by decide) ?_
                  rw [show nI i + 1 = nI (i + 1) from nI_add i 1]
                  refine ih (i + 1) (by omega) (fun j hj => ?_)
                  by_cases ej : j = i
                  · rw [ej]; exact e4
                  · exact hz0 j (by omega)
                · refine X_if_eq (pc := 244) 249 dX10_isSigned_244 (by decide) (fun z => absurd z e4) (fun _ => ?_)
                  refine X_iconst (pc := 247) (x := 0) dX10_isSigned_247 (by decide) ?_
                  refine X_zreturn (pc := 248) dX10_isSigned_248 rfl (by first | exact Or.inl rfl | exact Or.inr rfl | assumption | exact zo_if) (Nat.le_of_ble_eq_true rfl) (Nat.le_of_ble_eq_true rfl) ?_
                  exact no S' fc h' w' fS (fun z => e4 ((hsg.mp (hcond2.mp z)).1 i (by omega)))
            -- the masks
            have loopB : ∀ m i, i + m = db → ∀ S' h', MW A X R (up I 90 fc) (up S' 85 (mixL (fun j => Xl.getD j 0) (fun j => o.getD j 0) i (db + 49))) F h' → (∀ j, rK j = false → S' j = S j) → S' 86 = (List.range db).map (mskB mk) →
                XX g MX10_isSigned ({ frames := 6, cells := 0, slots := 0, locals := 161 } : Room) Post 0 0 175 [(9, .int (nI i)), (8, .int (nI s)), (7, .int (nI db)), (6, .int (nI (db + 49))), (5, .ref (A (502 + key))), (0, .ref (A 96)), (1, .int (nI key)), (2, .ref (A ki)), (3, .int (nI fr)), (4, .ref (A 88))] [] h' := by
              intro m
              induction m with
              | zero =>
                intro i hi S' h' w' fS s86'
                have ei : i = db := by omega
                subst ei
                obtain ⟨f5, c5, p5, -⟩ := w'.s 85 rfl
                rw [up_same] at p5
                have hmd' := md w'
                have hml := mixL_len (fun j => Xl.getD j 0) (fun j => o.getD j 0) i (i + 49)
                have hm0 : (mixL (fun j => Xl.getD j 0) (fun j => o.getD j 0) i (i + 49)).getD 0 0 = Xl.getD 0 0 := by rw [mixL_at (by omega), if_pos (by omega)]
                refine X_iload (pc := 175) 0 dX10_isSigned_175 rfl ?_
                refine X_iload (pc := 177) 2 dX10_isSigned_177 rfl ?_
                refine X_cge (pc := 179) 206 dX10_isSigned_179 (by decide) (by omega) (by omega) (fun _ => ?_) (fun z => absurd z (by omega))
                refine X_aload_n (pc := 206) 5 dX10_isSigned_206 rfl rfl ?_
                refine X_getfield (pc := 207) dX10_isSigned_207 fg_X10_540_11 (MW.ob w') mf_85 ?_
                refine X_iconst (pc := 210) (x := 0) dX10_isSigned_210 (by decide) ?_
                refine X_dup2_11 (pc := 211) dX10_isSigned_211 rfl rfl ?_
                refine X_baload (pc := 212) dX10_isSigned_212 c5 b0 ?_
                refine X_aload (pc := 213) 4 dX10_isSigned_213 rfl ?_
                refine X_isi (pc := 215) _ dX10_isSigned_215 cs_X10_599 rfl (clr_ok g hmd' hshn hn2.2) nX10_clear (Nat.le_of_ble_eq_true rfl) (Nat.le_of_ble_eq_true rfl) (Nat.le_of_ble_eq_true rfl) (Nat.le_of_ble_eq_true rfl) (fun r7 h7 q7 => ?_)
                obtain ⟨rfl, rfl⟩ := q7
                rw [hc]
                refine X_i2b (pc := 218) dX10_isSigned_218 ?_
                refine X_iand (pc := 219) dX10_isSigned_219 ?_
                refine X_i2b (pc := 220) dX10_isSigned_220 ?_
                refine X_bastore (pc := 221) dX10_isSigned_221 c5 b0 ?_
                rw [show ((0 : Int32).toNatClampNeg) = 0 from rfl, Int8.toInt8_toInt32, toInt8_low, toInt8_low (nI c), tb_u, p5 0 (by omega), hm0]
                have w7 := w'.setS 85 rfl (PL_set p5 0 (tb (u32 (Xl.getD 0 0 &&& tb c)))) (by rw [List.length_set, hml]; omega)
                rw [up_up'] at w7
                generalize hset h7 (A 85) _ = h8 at *
                refine X_iconst (pc := 222) (x := 0) dX10_isSigned_222 (by decide) ?_
                refine X_istore (pc := 223) (L' := [(9, .int _), (8, .int _), (7, .int _), (6, .int _), (5, .ref _), (0, .ref _), (1, .int _), (2, .ref _), (3, .int _), (4, .ref _)]) dX10_isSigned_223 (Nat.le_of_ble_eq_true rfl) rfl ?_
                refine tail _ h8 _ w7 (fS4 S' fS _) (up_same _ _ _) (by rw [List.length_set, hml]) (IsB.set ?_ 0 _) (fun j hj => ?_) (fun j hj => ?_) (i - s - 1) 0 (by omega) (fun j hj => absurd hj (by omega))
                · intro x hx
                  unfold mixL at hx
                  obtain ⟨q, hq, rfl⟩ := List.mem_map.mp hx
                  split
                  · rename_i hlt
                    show tb (u32 (Xl.getD q 0)) = Xl.getD q 0
                    rw [hxd q hlt]
                    exact tb_tb _
                  · exact hoB.at' q
                · rw [set0_at (by rw [hml]; omega), hyd, set0_at (by omega), mixL_at (by omega), if_pos hj]
                · rw [set0_at (by rw [hml]; omega), if_neg (by omega), mixL_at (by omega), if_neg (by omega)]
              | succ m ih =>
                intro i hi S' h' w' fS s86'
                obtain ⟨f5, c5, p5, -⟩ := w'.s 85 rfl
                obtain ⟨f6, c6, p6, -⟩ := w'.s 86 rfl
                rw [up_same] at p5
                rw [up_ne (by decide), s86'] at p6
                have hml := mixL_len (fun j => Xl.getD j 0) (fun j => o.getD j 0) i (db + 49)
                have bi : vp_in (nI i) 260 := vp_in_nI (by omega) (by omega)
                have ci : (nI i).toNatClampNeg = i := nI_clamp (by omega)
                refine X_iload (pc := 175) 0 dX10_isSigned_175 rfl ?_
                refine X_iload (pc := 177) 2 dX10_isSigned_177 rfl ?_
                refine X_cge (pc := 179) 206 dX10_isSigned_179 (by decide) (by omega) (by omega) (fun z => absurd z (by omega)) (fun _ => ?_)
                refine X_aload_n (pc := 182) 5 dX10_isSigned_182 rfl rfl ?_
                refine X_getfield (pc := 183) dX10_isSigned_183 fg_X10_540_11 (MW.ob w') mf_85 ?_
                refine X_iload (pc := 186) 0 dX10_isSigned_186 rfl ?_
                refine X_dup2_11 (pc := 188) dX10_isSigned_188 rfl rfl ?_
                refine X_baload (pc := 189) dX10_isSigned_189 c5 bi ?_
                refine X_aload_n (pc := 190) 5 dX10_isSigned_190 rfl rfl ?_
                refine X_getfield (pc := 191) dX10_isSigned_191 fg_X10_543_11 (MW.ob w') mf_86 ?_
                refine X_iload (pc := 194) 0 dX10_isSigned_194 rfl ?_
                refine X_baload (pc := 196) dX10_isSigned_196 c6 bi ?_
                refine X_ixor (pc := 197) dX10_isSigned_197 ?_
                refine X_i2b (pc := 198) dX10_isSigned_198 ?_
                refine X_bastore (pc := 199) dX10_isSigned_199 c5 bi ?_
                rw [ci, p5 i (by omega), mixL_at (by omega), if_neg (by omega), p6 i (by rw [List.length_map, List.length_range]; omega), getD_map_range (show i < db by omega), Int8.toInt8_toInt32, toInt8_low, hxd' i (by omega)]
                have w7 := w'.setS 85 rfl (PL_set p5 i (Xl.getD i 0)) (by rw [List.length_set, hml]; omega)
                rw [up_up', mixL_set (fun j => Xl.getD j 0)] at w7
                refine X_iinc (pc := 200) (L' := [(9, .int (_ + 1)), (8, .int _), (7, .int _), (6, .int _), (5, .ref _), (0, .ref _), (1, .int _), (2, .ref _), (3, .int _), (4, .ref _)]) 0 dX10_isSigned_200 rfl rfl (Nat.le_of_ble_eq_true rfl) rfl ?_
                refine X_goto (pc := 203) 175 dX10_isSigned_203 (by decide) ?_
                rw [show nI i + 1 = nI (i + 1) from nI_add i 1]
                exact ih (i + 1) (by omega) S' _ w7 fS s86'
            refine X_iconst (pc := 172) (x := 0) dX10_isSigned_172 (by decide) ?_
            refine X_istore (pc := 173) (L' := [(9, .int _), (8, .int _), (7, .int _), (6, .int _), (5, .ref _), (0, .ref _), (1, .int _), (2, .ref _), (3, .int _), (4, .ref _)]) dX10_isSigned_173 (Nat.le_of_ble_eq_true rfl) rfl ?_
            refine loopB db 0 (by omega) S6 h6 ?_ fS6' s86
            have e9 : mixL (fun j => Xl.getD j 0) (fun j => o.getD j 0) 0 (db + 49) = S6 85 := by
              rw [s85, ← map_getD hol]
              unfold mixL
              apply List.map_congr_left
              intro j hj
              rw [if_neg (by omega), map_getD hol]
            rw [e9, up_id]
            exact w6
          · refine X_if_eq (pc := 155) 160 dX10_isSigned_155 (by decide) (fun z => absurd z e2) (fun _ => ?_)
            refine X_iconst (pc := 158) (x := 0) dX10_isSigned_158 (by decide) ?_
            refine X_zreturn (pc := 159) dX10_isSigned_159 rfl (by first | exact Or.inl rfl | exact Or.inr rfl | assumption | exact zo_if) (Nat.le_of_ble_eq_true rfl) (Nat.le_of_ble_eq_true rfl) ?_
            refine no _ fc _ w4 (fS4 S (fun _ _ => rfl) _) (fun z => e2 ?_)
            have := (hcond2.mp z).2.2.1
            rwa [hoo] at this
        · refine X_icmp_ne (pc := 134) 158 dX10_isSigned_134 (by decide) (fun _ => ?_) (fun z => absurd z e1)
          refine X_iconst (pc := 158) (x := 0) dX10_isSigned_158 (by decide) ?_
          refine X_zreturn (pc := 159) dX10_isSigned_159 rfl (by first | exact Or.inl rfl | exact Or.inr rfl | assumption | exact zo_if) (Nat.le_of_ble_eq_true rfl) (Nat.le_of_ble_eq_true rfl) ?_
          refine no _ fc _ w4 (fS4 S (fun _ _ => rfl) _) (fun z => e1 ?_)
          have := (hcond2.mp z).2.1
          rwa [hoo] at this
      | succ m ih =>
        intro k hk hk2 hz
        have bk4 : vp_in (nI (k / 4)) 64 := vp_in_nI (by omega) (by omega)
        have ck4 : (nI (k / 4)).toNatClampNeg = k / 4 := nI_clamp (by omega)
        have hb : u32 ((fc (k / 4)).toUInt32 >>> ((nI (8 * (k % 4))).toUInt32 &&& Int32.toUInt32 31)).toInt32 % 256 = v / 256 ^ k % 256 := by
          have h1 : u32 (((fc (k / 4)).toUInt32 >>> ((nI (8 * (k % 4))).toUInt32 &&& Int32.toUInt32 31)).toInt32) = u32 (fc (k / 4)) / 2 ^ (8 * (k % 4)) := pk_ushr _ (nI (8 * (k % 4))) (8 * (k % 4)) (sr_n _ (by omega))
          rw [h1, V_byte (show k / 4 < n by omega), hvc]
        refine X_iload (pc := 50) 0 dX10_isSigned_50 rfl ?_
        refine X_iconst (pc := 52) (x := 4) dX10_isSigned_52 (by decide) ?_
        refine X_aload (pc := 53) 2 dX10_isSigned_53 rfl ?_
        refine X_getfield (pc := 55) dX10_isSigned_55 fg_X10_13_12 hmd2 (by first | rfl | assumption) ?_
        refine X_imul (pc := 58) dX10_isSigned_58 ?_
        rw [show (4 : Int32) * nI n = nI (4 * n) from pk_mul 4 n]
        refine X_cge (pc := 59) 94 dX10_isSigned_59 (by decide) (by omega) (by omega) (fun z => absurd z (by omega)) (fun _ => ?_)
        refine X_aload_n (pc := 62) 3 dX10_isSigned_62 rfl rfl ?_
        refine X_getfield (pc := 63) dX10_isSigned_63 fg_X10_555_11 (MW.ob w2) mf_90 ?_
        refine X_iload (pc := 66) 0 dX10_isSigned_66 rfl ?_
        refine X_iconst (pc := 68) (x := 4) dX10_isSigned_68 (by decide) ?_
        refine X_idiv (pc := 69) dX10_isSigned_69 (show ¬ (4 : Int32) = 0 by decide) ?_
        rw [show nI k / 4 = nI (k / 4) from pk_div (d := 4) (by omega) (by decide) (by decide)]
        refine X_iaload (pc := 70) dX10_isSigned_70 c90 bk4 ?_
        refine X_bipush (pc := 71) (x := 8) dX10_isSigned_71 (by decide) ?_
        refine X_iload (pc := 73) 0 dX10_isSigned_73 rfl ?_
        refine X_iconst (pc := 75) (x := 4) dX10_isSigned_75 (by decide) ?_
        refine X_irem (pc := 76) dX10_isSigned_76 (show ¬ (4 : Int32) = 0 by decide) ?_
        rw [ck4, show nI k - nI k / 4 * 4 = nI (k % 4) from pk_rem (d := 4) (by omega) (by decide) (by decide)]
        refine X_imul (pc := 77) dX10_isSigned_77 ?_
        rw [show (8 : Int32) * nI (k % 4) = nI (8 * (k % 4)) from pk_mul 8 _]
        refine X_iushr (pc := 78) dX10_isSigned_78 ?_
        refine X_sipush (pc := 79) (x := 255) dX10_isSigned_79 (by decide) ?_
        refine X_iand (pc := 82) dX10_isSigned_82 ?_
        by_cases ez : v / 256 ^ k % 256 = 0
        · refine X_if_eq (pc := 83) 88 dX10_isSigned_83 (by decide) (fun _ => ?_) (fun z => absurd ((and255 _).mpr (by rw [hb]; exact ez)) z)
          refine X_iinc (pc := 88) (L' := [(7, .int (_ + 1)), (6, .int _), (5, .ref _), (0, .ref _), (1, .int _), (2, .ref _), (3, .int _), (4, .ref _)]) 0 dX10_isSigned_88 rfl rfl (Nat.le_of_ble_eq_true rfl) rfl ?_
          refine X_goto (pc := 91) 50 dX10_isSigned_91 (by decide) ?_
          rw [show nI k + 1 = nI (k + 1) from nI_add k 1]
          refine ih (k + 1) (by omega) (by omega) (fun q q1 q2 => ?_)
          by_cases eq : q = k
          · rw [eq]; exact ez
          · exact hz q q1 (by omega)
        · refine X_if_eq (pc := 83) 88 dX10_isSigned_83 (by decide) (fun z => absurd ((and255 _).mp z) (by rw [hb]; exact ez)) (fun _ => ?_)
          refine X_iconst (pc := 86) (x := 0) dX10_isSigned_86 (by decide) ?_
          refine X_zreturn (pc := 87) dX10_isSigned_87 rfl (by first | exact Or.inl rfl | exact Or.inr rfl | assumption | exact zo_if) (Nat.le_of_ble_eq_true rfl) (Nat.le_of_ble_eq_true rfl) ?_
          refine no S fc h3 w2 (fun _ _ => rfl) (fun z => ez ?_)
          have hlt := (hcond2.mp z).1
          rw [Nat.div_eq_of_lt (Nat.lt_of_lt_of_le hlt (Nat.pow_le_pow_right (by decide) hk2))]
    exact loopA (4 * n - (db + 49)) (db + 49) (by omega) (Nat.le_refl _) (fun q q1 q2 => absurd q2 (by omega))
  · refine X_if_lt (pc := 23) 28 dX10_isSigned_23 (by decide) (fun z => absurd (cmpN_lt0.mp z) cv) (fun _ => ?_)
    refine X_iconst (pc := 26) (x := 0) dX10_isSigned_26 (by decide) ?_
    refine X_zreturn (pc := 27) dX10_isSigned_27 rfl (by first | exact Or.inl rfl | exact Or.inr rfl | assumption | exact zo_if) (Nat.le_of_ble_eq_true rfl) (Nat.le_of_ble_eq_true rfl) ?_
    refine no S (I 90) _ (by rw [up_id]; exact w) (fun _ _ => rfl) (fun z => ?_)
    rw [← hcond] at z
    exact cv z.1
end MSg
