set_option maxRecDepth 100000
/-! the reference: an input with a salt as a number -/
def emV (salt : List Int32) (db s j : Nat) : Int32 := if j < db - s - 1 then 0 else if j = db - s - 1 then 1 else salt.getD (j - (db - s)) 0
noncomputable def emX (inn salt : List Int32) (db s : Nat) : List Int32 := (List.range db).map fun j => tb (u32 (emV salt db s j ^^^ mskB inn j))
noncomputable def encL (inn salt : List Int32) (db s c : Nat) : List Int32 := (emX inn salt db s).set 0 (tb (u32 ((emX inn salt db s).getD 0 0 &&& tb c))) ++ inn ++ [tb 188]
theorem emX_len (inn salt : List Int32) (db s : Nat) : (emX inn salt db s).length = db := by unfold emX; rw [List.length_map, List.length_range]
theorem emX_B (inn salt : List Int32) (db s : Nat) : IsB (emX inn salt db s) := IsB.map _ _
theorem PL_set {f : Nat → Int32} {l : List Int32} (h : PL f l) (i : Nat) (x : Int32) : PL (upd f i x) (l.set i x) := by
  intro j hj
  rw [List.length_set] at hj
  rw [List.getD_eq_getElem?_getD, List.getElem?_set]
  by_cases e : i = j
  · subst e
    rw [if_pos rfl, if_pos hj]
    exact upd_at _ _ _
  · rw [if_neg e, ← List.getD_eq_getElem?_getD]
    exact (if_neg (fun z => e z.symm)).trans (h j hj)
theorem IsB.set {l : List Int32} (h : IsB l) (i v : Nat) : IsB (l.set i (tb v)) := fun x hx => by
  rcases List.mem_or_eq_of_mem_set hx with z | rfl
  · exact h x z
  · exact tb_tb v
def rK (j : Nat) : Bool := hK j || j == 85 || j == 86 || j == 87
theorem rK_ne {j k : Nat} (h : rK j = false) (hk : rK k = true) : j ≠ k := fun e => by rw [e, hk] at h; cases h
theorem rK_s {j : Nat} (h : rK j = false) : sK j = false := by
  unfold rK at h
  unfold sK
  simp only [Bool.or_eq_false_iff] at h ⊢
  simp [h]
theorem rK_m {j : Nat} (h : rK j = false) : mK j = false := by
  unfold rK at h
  unfold mK
  simp only [Bool.or_eq_false_iff] at h ⊢
  simp [h]
theorem rK_h {j : Nat} (h : rK j = false) : hK j = false := by
  unfold rK at h
  simp only [Bool.or_eq_false_iff] at h
  exact h.1.1.1
section MEn
variable {A : Nat → Nat} {X : AH} {R : Nat → Nat} {I : Nat → Nat → Int32} {S : Nat → List Int32} {F : Nat → Int32} {h : AH}
set_option maxHeartbeats 8000000 in
theorem encodes_ok (g : GX) (w : MW A X R I S F h) {key n sh s ki ni fr ks ns at' db : Nat} (hkey : key < 6) (hn : F (542 + key) = nI n) (hsh : F (552 + key) = nI sh) (hn2 : 0 < n ∧ n ≤ 64) (hsh2 : sh < 32) (hs : I 69 key = nI s) (hs2 : s ≤ 48) (hdb : esz (btN n sh) = db + 49) (hdb2 : s + 1 ≤ db) (hdb3 : db + 49 ≤ 4 * n)
    (hki : kdM ki = (6, 2, ni)) (hni : ni < 2 ^ 31) (hi2 : rK ki = false) (hiB : IsB (S ki)) (hfr : fr + 98 ≤ (S ki).length) (hks : kdM ks = (6, 2, ns)) (hns : ns < 2 ^ 31) (hs3 : rK ks = false) (hsB : IsB (S ks)) (hat : at' + s ≤ (S ks).length) :
    MT g MX10_encodes ({ frames := 4, cells := 0, slots := 0, locals := 111 } : Room) [.ref (A 96), .int (nI key), .ref (A ki), .int (nI fr), .ref (A ks), .int (nI at'), .ref (A 88)] h (RV fun h' => ∃ S' f, MW A X R (up I 88 f) S' (up F 26 0) h' ∧ (∀ j, rK j = false → S' j = S j) ∧
      V n f = bsm (fun q => (encL (saltH (sub (S ki) fr 98) (sub (S ks) at' s)) (sub (S ks) at' s) db s (clr (btN n sh))).getD q 0) (db + 49) (db + 49)) := by
  refine MT.of (by decide) (Nat.le_of_ble_eq_true rfl) ?_
  generalize hst : sub (S ks) at' s = salt
  have hstl : salt.length = s := by rw [← hst]; exact sub_len _ _ _
  generalize hin : saltH (sub (S ki) fr 98) salt = inn
  have hinB : IsB inn := by rw [← hin]; exact sha384_B _
  have hinl : inn.length = 48 := by rw [← hin]; exact sha384_len _
  have hc : clr (btN n sh) < 256 := by unfold clr; exact Nat.lt_of_le_of_lt (Nat.div_le_self _ _) (by decide)
  generalize hPost : (RV fun h' => ∃ S' f, MW A X R (up I 88 f) S' (up F 26 0) h' ∧ (∀ j, rK j = false → S' j = S j) ∧ V n f = bsm (fun q => (encL inn salt db s (clr (btN n sh))).getD q 0) (db + 49) (db + 49)) = Post
  have hshn : sh < 32 * n := by omega
  have bk : vp_in (nI key) 6 := vp_in_nI (by omega) (by omega)
  have ck : (nI key).toNatClampNeg = key := nI_clamp (by omega)
  have md : ∀ {S' F' h'}, MW A X R I S' F' h' → F' (542 + key) = nI n → F' (552 + key) = nI sh → h' (A (502 + key)) = some (Ob 12 [.ref (A (510 + (2 + key))), .ref (A (520 + (2 + key))), .int (nI n), .int (nI sh)]) := by
    intro S' F' h' w' f1 f2
    have := w'.md (j := 2 + key) (by omega) (by omega)
    rwa [show 500 + (2 + key) = 502 + key by omega, show 540 + (2 + key) = 542 + key by omega, show 550 + (2 + key) = 552 + key by omega, f1, f2] at this
  have F542 : (up F 26 0) (542 + key) = nI n := by rw [up_ne (by omega)]; exact hn
  have F552 : (up F 26 0) (552 + key) = nI sh := by rw [up_ne (by omega)]; exact hsh
  have xl := emX_len inn salt db s
  have xB := emX_B inn salt db s
  have hxd : emX inn salt db s = (List.range db).map fun j => tb (u32 (emV salt db s j ^^^ mskB inn j)) := rfl
  have hel : encL inn salt db s (clr (btN n sh)) = (emX inn salt db s).set 0 (tb (u32 ((emX inn salt db s).getD 0 0 &&& tb (clr (btN n sh))))) ++ inn ++ [tb 188] := rfl
  have sub1 : nI (db + 49) - 49 = nI db := by rw [show nI (db + 49) - 49 = nI (db + 49) - nI 49 from rfl, pk_sub (by omega), Nat.add_sub_cancel]
  have sub2 : nI db - nI s = nI (db - s) := pk_sub (by omega)
  have sub3 : nI (db - s) - 1 = nI (db - s - 1) := by rw [show db - s = db - s - 1 + 1 by omega, nI_pred, Nat.add_sub_cancel]
  have sub4 : nI (db + 49) - 1 = nI (db + 48) := nI_pred (db + 48)
  -- the hash comes behind
  have loop2 : ∀ Z : List Int32, Z.length = db → Z ++ inn ++ [tb 188] = encL inn salt db s (clr (btN n sh)) → ∀ m i, i + m = 48 → ∀ S' h', MW A X R I (up S' 85 (Z ++ (List.range i).map fun j => inn.getD j 0)) (up F 26 0) h' → (∀ j, rK j = false → S' j = S j) → S' 87 = inn →
      XX g MX10_encodes ({ frames := 4, cells := 0, slots := 0, locals := 111 } : Room) Post 0 0 154 [(11, .int (nI i)), (10, .int (nI db)), (9, .int (nI s)), (8, .int (nI (db + 49))), (7, .ref (A (502 + key))), (0, .ref (A 96)), (1, .int (nI key)), (2, .ref (A ki)), (3, .int (nI fr)), (4, .ref (A ks)), (5, .int (nI at')), (6, .ref (A 88))] [] h' := by
    intro Z hZl hZ m
    induction m with
    | zero =>
      intro i hi S' h' w' fS s87
      have e : i = 48 := by omega
      subst e
      rw [map_getD hinl] at w'
      have hl : (Z ++ inn).length = db + 48 := by rw [List.length_append, hZl, hinl]
      obtain ⟨f85, c85, p85, -⟩ := w'.s 85 rfl
      rw [up_same] at p85
      have b5 : vp_in (nI (db + 48)) 260 := vp_in_nI (by omega) (by omega)
      have c5 : (nI (db + 48)).toNatClampNeg = (Z ++ inn).length := by rw [hl]; exact nI_clamp (by omega)
      refine X_iload (pc := 154) 0 dX10_encodes_154 rfl ?_
      refine X_bipush (pc := 156) (x := 48) dX10_encodes_156 (by decide) ?_
      refine X_cge (a := 48) (b := 48) (pc := 158) 184 dX10_encodes_158 (by decide) (by omega) (by omega) (fun _ => ?_) (fun c => absurd c (by omega))
      refine X_aload_n (pc := 184) 5 dX10_encodes_184 rfl rfl ?_
      refine X_getfield (pc := 185) dX10_encodes_185 fg_X10_540_11 (MW.ob w') mf_85 ?_
      refine X_iload (pc := 188) 3 dX10_encodes_188 rfl ?_
      refine X_iconst (pc := 190) (x := 1) dX10_encodes_190 (by decide) ?_
      refine X_isub (pc := 191) dX10_encodes_191 ?_
      rw [sub4]
      refine X_bipush (pc := 192) (x := (-68)) dX10_encodes_192 (by decide) ?_
      refine X_bastore (pc := 194) dX10_encodes_194 c85 b5 ?_
      rw [c5, show ((-68) : Int32).toInt8.toInt32 = tb 188 by decide]
      have w2 := w'.setS 85 rfl (PL_snoc (x := tb 188) p85) (by rw [List.length_append, hl]; exact (show db + 48 + 1 ≤ 260 by omega))
      rw [up_up', hZ] at w2
      generalize hset h' (A 85) (Ai false 2 260 (upd f85 (Z ++ inn).length (tb 188))) = h2 at *
      have hEl : (encL inn salt db s (clr (btN n sh))).length = db + 49 := by rw [← hZ, List.length_append, hl]; rfl
      generalize encL inn salt db s (clr (btN n sh)) = E at *
      obtain ⟨g85, d85, r85, -⟩ := w2.s 85 rfl
      rw [up_same] at r85
      have hbs : bsm g85 (0 + (db + 49)) (db + 49) = bsm (fun q => E.getD q 0) (db + 49) (db + 49) := by
        rw [Nat.zero_add]
        exact bsm_cg fun q hq => r85 _ (by omega)
      have hmd := md w2 F542 F552
      have fgn : (nI n) = nI n := rfl
      refine X_aload_n (pc := 195) 5 dX10_encodes_195 rfl rfl ?_
      refine X_getfield (pc := 196) dX10_encodes_196 fg_X10_540_11 (MW.ob w2) mf_85 ?_
      refine X_iconst (pc := 199) (x := 0) dX10_encodes_199 (by decide) ?_
      refine X_iload (pc := 200) 3 dX10_encodes_200 rfl ?_
      refine X_aload (pc := 202) 11 dX10_encodes_202 rfl ?_
      refine X_aload (pc := 204) 4 dX10_encodes_204 rfl ?_
      refine X_getfield (pc := 206) dX10_encodes_206 fg_X10_13_12 hmd (by first | rfl | assumption) ?_
      refine X_isv (pc := 209) _ dX10_encodes_209 cs_X10_217 rfl (load_ok g (fr := 0) (many := db + 49) (n := n) d85 (w2.i 88 rfl) (by omega) (by decide) hn2.2 (by decide) hdb3) nX10_load (Nat.le_of_ble_eq_true rfl) (Nat.le_of_ble_eq_true rfl) (Nat.le_of_ble_eq_true rfl) (Nat.le_of_ble_eq_true rfl) (fun h3 q3 => ?_)
      obtain ⟨f, hv, -, rfl⟩ := q3
      subst hPost
      refine X_return (pc := 212) dX10_encodes_212 rfl (Nat.le_of_ble_eq_true rfl) (Nat.le_of_ble_eq_true rfl) ?_
      refine ⟨rfl, _, f, w2.setI 88 rfl f, fun j hj => ?_, by rw [hv, hbs]⟩
      rw [up_ne (rK_ne hj rfl)]
      exact fS j hj
    | succ m ih =>
      intro i hi S' h' w' fS s87
      obtain ⟨f85, c85, p85, -⟩ := w'.s 85 rfl
      obtain ⟨f87, c87, p87, -⟩ := w'.s 87 rfl
      rw [up_same] at p85
      rw [up_ne (by decide), s87] at p87
      have hli : (Z ++ (List.range i).map fun j => inn.getD j 0).length = db + i := by rw [List.length_append, hZl, List.length_map, List.length_range]
      have b5 : vp_in (nI (db + i)) 260 := vp_in_nI (by omega) (by omega)
      have c5 : (nI (db + i)).toNatClampNeg = (Z ++ (List.range i).map fun j => inn.getD j 0).length := by rw [hli]; exact nI_clamp (by omega)
      have b6 : vp_in (nI i) 48 := vp_in_nI (by omega) (by omega)
      have c6 : (nI i).toNatClampNeg = i := nI_clamp (by omega)
      refine X_iload (pc := 154) 0 dX10_encodes_154 rfl ?_
      refine X_bipush (pc := 156) (x := 48) dX10_encodes_156 (by decide) ?_
      refine X_cge (b := 48) (pc := 158) 184 dX10_encodes_158 (by decide) (by omega) (by omega) (fun c => absurd c (by omega)) (fun _ => ?_)
      refine X_aload_n (pc := 161) 5 dX10_encodes_161 rfl rfl ?_
      refine X_getfield (pc := 162) dX10_encodes_162 fg_X10_540_11 (MW.ob w') mf_85 ?_
      refine X_iload (pc := 165) 1 dX10_encodes_165 rfl ?_
      refine X_iload (pc := 167) 0 dX10_encodes_167 rfl ?_
      refine X_iadd (pc := 169) dX10_encodes_169 ?_
      rw [nI_add]
      refine X_aload_n (pc := 170) 5 dX10_encodes_170 rfl rfl ?_
      refine X_getfield (pc := 171) dX10_encodes_171 fg_X10_546_11 (MW.ob w') mf_87 ?_
      refine X_iload (pc := 174) 0 dX10_encodes_174 rfl ?_
      refine X_baload (pc := 176) dX10_encodes_176 c87 b6 ?_
      refine X_bastore (pc := 177) dX10_encodes_177 c85 b5 ?_
      rw [c5, c6, p87 i (by omega), hinB.nar]
      have w2 := w'.setS 85 rfl (PL_snoc (x := inn.getD i 0) p85) (by rw [List.length_append, hli]; exact (show db + i + 1 ≤ 260 by omega))
      rw [up_up', List.append_assoc, ← List.map_singleton (f := fun j => inn.getD j 0), ← List.map_append, ← List.range_succ] at w2
      refine X_iinc (pc := 178) (L' := [(11, .int (_ + 1)), (10, .int _), (9, .int _), (8, .int _), (7, .ref _), (0, .ref _), (1, .int _), (2, .ref _), (3, .int _), (4, .ref _), (5, .int _), (6, .ref _)]) 0 dX10_encodes_178 rfl rfl (Nat.le_of_ble_eq_true rfl) rfl ?_
      refine X_goto (pc := 181) 154 dX10_encodes_181 (by decide) ?_
      rw [show nI i + 1 = nI (i + 1) from nI_add i 1]
      exact ih (i + 1) (by omega) S' _ w2 fS s87
  -- the masked block
  have loop1 : ∀ m i, i + m = db → ∀ S' h', MW A X R I (up S' 85 ((List.range i).map fun j => tb (u32 (emV salt db s j ^^^ mskB inn j)))) (up F 26 0) h' → (∀ j, rK j = false → S' j = S j) → S' 87 = inn → S' 86 = (List.range db).map (mskB inn) →
      XX g MX10_encodes ({ frames := 4, cells := 0, slots := 0, locals := 111 } : Room) Post 0 0 56 [(11, .int (nI i)), (10, .int (nI db)), (9, .int (nI s)), (8, .int (nI (db + 49))), (7, .ref (A (502 + key))), (0, .ref (A 96)), (1, .int (nI key)), (2, .ref (A ki)), (3, .int (nI fr)), (4, .ref (A ks)), (5, .int (nI at')), (6, .ref (A 88))] [] h' := by
    intro m
    induction m with
    | zero =>
      intro i hi S' h' w' fS s87 s86
      have e : i = db := by omega
      subst e
      rw [← hxd] at w'
      obtain ⟨f85, c85, p85, -⟩ := w'.s 85 rfl
      rw [up_same] at p85
      have b0 : vp_in (0 : Int32) 260 := vp_in_nI (n := 0) (by decide) (by decide)
      have hmd := md w' F542 F552
      refine X_iload (pc := 56) 0 dX10_encodes_56 rfl ?_
      refine X_iload (pc := 58) 1 dX10_encodes_58 rfl ?_
      refine X_cge (pc := 60) 135 dX10_encodes_60 (by decide) (by omega) (by omega) (fun _ => ?_) (fun c => absurd c (by omega))
      refine X_aload_n (pc := 135) 5 dX10_encodes_135 rfl rfl ?_
      refine X_getfield (pc := 136) dX10_encodes_136 fg_X10_540_11 (MW.ob w') mf_85 ?_
      refine X_iconst (pc := 139) (x := 0) dX10_encodes_139 (by decide) ?_
      refine X_dup2_11 (pc := 140) dX10_encodes_140 rfl rfl ?_
      refine X_baload (pc := 141) dX10_encodes_141 c85 b0 ?_
      refine X_aload (pc := 142) 4 dX10_encodes_142 rfl ?_
      refine X_isi (pc := 144) _ dX10_encodes_144 cs_X10_599 rfl (clr_ok g hmd hshn hn2.2) nX10_clear (Nat.le_of_ble_eq_true rfl) (Nat.le_of_ble_eq_true rfl) (Nat.le_of_ble_eq_true rfl) (Nat.le_of_ble_eq_true rfl) (fun r2 h2 q2 => ?_)
      obtain ⟨rfl, rfl⟩ := q2
      refine X_i2b (pc := 147) dX10_encodes_147 ?_
      refine X_iand (pc := 148) dX10_encodes_148 ?_
      refine X_i2b (pc := 149) dX10_encodes_149 ?_
      refine X_bastore (pc := 150) dX10_encodes_150 c85 b0 ?_
      rw [show ((0 : Int32).toNatClampNeg) = 0 from rfl, Int8.toInt8_toInt32, toInt8_low, toInt8_low (nI (clr (btN n sh))), tb_u, p85 0 (by omega)]
      have w2 := w'.setS 85 rfl (PL_set p85 0 (tb (u32 ((emX inn salt i s).getD 0 0 &&& tb (clr (btN n sh)))))) (by rw [List.length_set, xl]; omega)
      rw [up_up'] at w2
      generalize hset h2 (A 85) _ = h3 at *
      refine X_iconst (pc := 151) (x := 0) dX10_encodes_151 (by decide) ?_
      refine X_istore (pc := 152) (L' := [(11, .int _), (10, .int _), (9, .int _), (8, .int _), (7, .ref _), (0, .ref _), (1, .int _), (2, .ref _), (3, .int _), (4, .ref _), (5, .int _), (6, .ref _)]) dX10_encodes_152 (Nat.le_of_ble_eq_true rfl) rfl ?_
      refine loop2 _ (by rw [List.length_set]; exact xl) rfl 48 0 (by omega) S' h3 ?_ fS s87
      rw [List.range_zero, List.map_nil, List.append_nil]
      exact w2
    | succ m ih =>
      intro i hi S' h' w' fS s87 s86
      obtain ⟨f85, c85, p85, -⟩ := w'.s 85 rfl
      obtain ⟨f86, c86, p86, -⟩ := w'.s 86 rfl
      obtain ⟨fs, cs, ps, ls⟩ := w'.s ks hks
      rw [up_same] at p85
      rw [up_ne (by decide), s86] at p86
      rw [up_ne (rK_ne hs3 rfl), fS ks hs3] at ps ls
      have hli : ((List.range i).map fun j => tb (u32 (emV salt db s j ^^^ mskB inn j))).length = i := by rw [List.length_map, List.length_range]
      have bi : vp_in (nI i) 260 := vp_in_nI (by omega) (by omega)
      have ci : (nI i).toNatClampNeg = i := nI_clamp (by omega)
      have fin : ∀ y : Int32, y = emV salt db s i → XX g MX10_encodes ({ frames := 4, cells := 0, slots := 0, locals := 111 } : Room) Post 0 0 109 [(11, .int (nI i)), (10, .int (nI db)), (9, .int (nI s)), (8, .int (nI (db + 49))), (7, .ref (A (502 + key))), (0, .ref (A 96)), (1, .int (nI key)), (2, .ref (A ki)), (3, .int (nI fr)), (4, .ref (A ks)), (5, .int (nI at')), (6, .ref (A 88))] [.int y] h' := by
        intro y hy
        refine X_istore (pc := 109) (L' := [(12, .int _), (11, .int _), (10, .int _), (9, .int _), (8, .int _), (7, .ref _), (0, .ref _), (1, .int _), (2, .ref _), (3, .int _), (4, .ref _), (5, .int _), (6, .ref _)]) dX10_encodes_109 (Nat.le_of_ble_eq_true rfl) rfl ?_
        refine X_aload_n (pc := 111) 6 dX10_encodes_111 rfl rfl ?_
        refine X_getfield (pc := 112) dX10_encodes_112 fg_X10_540_11 (MW.ob w') mf_85 ?_
        refine X_iload (pc := 115) 1 dX10_encodes_115 rfl ?_
        refine X_iload (pc := 117) 0 dX10_encodes_117 rfl ?_
        refine X_aload_n (pc := 119) 6 dX10_encodes_119 rfl rfl ?_
        refine X_getfield (pc := 120) dX10_encodes_120 fg_X10_543_11 (MW.ob w') mf_86 ?_
        refine X_iload (pc := 123) 1 dX10_encodes_123 rfl ?_
        refine X_baload (pc := 125) dX10_encodes_125 c86 bi ?_
        refine X_ixor (pc := 126) dX10_encodes_126 ?_
        refine X_i2b (pc := 127) dX10_encodes_127 ?_
        refine X_bastore (pc := 128) dX10_encodes_128 c85 bi ?_
        rw [ci, p86 i (by rw [List.length_map, List.length_range]; omega), getD_map_range (show i < db by omega), Int8.toInt8_toInt32, toInt8_low, hy]
        have w2 := w'.setS 85 rfl (PL_snoc (x := tb (u32 (emV salt db s i ^^^ mskB inn i))) p85) (by rw [List.length_append, hli]; exact (show i + 1 ≤ 260 by omega))
        rw [hli, up_up', ← List.map_singleton (f := fun j => tb (u32 (emV salt db s j ^^^ mskB inn j))), ← List.map_append, ← List.range_succ] at w2
        refine X_iinc (pc := 129) (L' := [(11, .int (_ + 1)), (12, .int _), (10, .int _), (9, .int _), (8, .int _), (7, .ref _), (0, .ref _), (1, .int _), (2, .ref _), (3, .int _), (4, .ref _), (5, .int _), (6, .ref _)]) 1 dX10_encodes_129 rfl rfl (Nat.le_of_ble_eq_true rfl) rfl ?_
        refine X_goto (pc := 132) 56 dX10_encodes_132 (by decide) ?_
        refine XX.pick (L' := [(11, .int _), (10, .int _), (9, .int _), (8, .int _), (7, .ref _), (0, .ref _), (1, .int _), (2, .ref _), (3, .int _), (4, .ref _), (5, .int _), (6, .ref _)]) [0, 2, 3, 4, 5, 6, 7, 8, 9, 10, 11, 12] rfl ?_
        rw [show nI i + 1 = nI (i + 1) from nI_add i 1]
        exact ih (i + 1) (by omega) S' _ w2 fS s87 s86
      refine X_iload (pc := 56) 0 dX10_encodes_56 rfl ?_
      refine X_iload (pc := 58) 1 dX10_encodes_58 rfl ?_
      refine X_cge (pc := 60) 135 dX10_encodes_60 (by decide) (by omega) (by omega) (fun c => absurd c (by omega)) (fun _ => ?_)
      refine X_iload (pc := 63) 0 dX10_encodes_63 rfl ?_
      refine X_iload (pc := 65) 1 dX10_encodes_65 rfl ?_
      refine X_iload (pc := 67) 2 dX10_encodes_67 rfl ?_
      refine X_isub (pc := 69) dX10_encodes_69 ?_
      refine X_iconst (pc := 70) (x := 1) dX10_encodes_70 (by decide) ?_
      refine X_isub (pc := 71) dX10_encodes_71 ?_
      rw [sub2, sub3]
      by_cases c1 : i < db - s - 1
      · refine X_icmp_ge (pc := 72) 79 dX10_encodes_72 (by decide) (fun c => absurd c (nI_ge c1 (by omega))) (fun _ => ?_)
        refine X_iconst (pc := 75) (x := 0) dX10_encodes_75 (by decide) ?_
        refine X_goto (pc := 76) 109 dX10_encodes_76 (by decide) ?_
        exact fin 0 (by unfold emV; rw [if_pos c1])
      · refine X_icmp_ge (pc := 72) 79 dX10_encodes_72 (by decide) (fun _ => ?_) (fun c => absurd (nI_le (by omega) (by omega)) c)
        refine X_iload (pc := 79) 0 dX10_encodes_79 rfl ?_
        refine X_iload (pc := 81) 1 dX10_encodes_81 rfl ?_
        refine X_iload (pc := 83) 2 dX10_encodes_83 rfl ?_
        refine X_isub (pc := 85) dX10_encodes_85 ?_
        refine X_iconst (pc := 86) (x := 1) dX10_encodes_86 (by decide) ?_
        refine X_isub (pc := 87) dX10_encodes_87 ?_
        rw [sub2, sub3]
        by_cases c2 : i = db - s - 1
        · refine X_icmp_ne (pc := 88) 95 dX10_encodes_88 (by decide) (fun c => absurd (by rw [c2]) c) (fun _ => ?_)
          refine X_iconst (pc := 91) (x := 1) dX10_encodes_91 (by decide) ?_
          refine X_goto (pc := 92) 109 dX10_encodes_92 (by decide) ?_
          exact fin 1 (by unfold emV; rw [if_neg c1, if_pos c2])
        · refine X_icmp_ne (pc := 88) 95 dX10_encodes_88 (by decide) (fun _ => ?_) (fun c => absurd (nI_inj' (by omega) (by omega) c) c2)
          have bs : vp_in (nI (at' + i - (db - s))) ns := vp_in_nI (by omega) (by omega)
          have cs2 : (nI (at' + i - (db - s))).toNatClampNeg = at' + i - (db - s) := nI_clamp (by omega)
          refine X_aload (pc := 95) 9 dX10_encodes_95 rfl ?_
          refine X_iload (pc := 97) 10 dX10_encodes_97 rfl ?_
          refine X_iload (pc := 99) 0 dX10_encodes_99 rfl ?_
          refine X_iadd (pc := 101) dX10_encodes_101 ?_
          refine X_iload (pc := 102) 1 dX10_encodes_102 rfl ?_
          refine X_iload (pc := 104) 2 dX10_encodes_104 rfl ?_
          refine X_isub (pc := 106) dX10_encodes_106 ?_
          refine X_isub (pc := 107) dX10_encodes_107 ?_
          rw [nI_add, sub2, pk_sub (show db - s ≤ at' + i by omega)]
          refine X_baload (pc := 108) dX10_encodes_108 cs bs ?_
          rw [cs2, ps _ (by omega)]
          refine fin _ ?_
          unfold emV
          rw [if_neg c1, if_neg c2, ← hst]
          unfold sub
          rw [getD_map_range (show i - (db - s) < s by omega), show at' + (i - (db - s)) = at' + i - (db - s) by omega]
  have hmd0 := md w hn hsh
  refine X_aload_n (pc := 0) 0 dX10_encodes_0 rfl rfl ?_
  refine X_getfield (pc := 1) dX10_encodes_1 fg_X10_503_11 (MW.ob w) mf_66 ?_
  refine X_iload_n (pc := 4) 1 dX10_encodes_4 rfl rfl ?_
  refine X_aaload (pc := 5) dX10_encodes_5 (w.o 66 rfl) (fun _ => rfl) bk ?_
  rw [ck]
  refine XX.eqst (st' := [.ref (A (502 + key))]) rfl ?_
  refine X_astore (pc := 6) (L' := [(7, .ref _), (0, .ref _), (1, .int _), (2, .ref _), (3, .int _), (4, .ref _), (5, .int _), (6, .ref _)]) dX10_encodes_6 (Nat.le_of_ble_eq_true rfl) rfl ?_
  refine X_aload (pc := 8) 0 dX10_encodes_8 rfl ?_
  refine X_isi (pc := 10) _ dX10_encodes_10 cs_X10_588 rfl (esz_ok g hmd0 hshn hn2.2) nX10_encodedSize (Nat.le_of_ble_eq_true rfl) (Nat.le_of_ble_eq_true rfl) (Nat.le_of_ble_eq_true rfl) (Nat.le_of_ble_eq_true rfl) (fun r1 h1 q1 => ?_)
  obtain ⟨rfl, rfl⟩ := q1
  rw [hdb]
  refine X_istore (pc := 13) (L' := [(8, .int _), (7, .ref _), (0, .ref _), (1, .int _), (2, .ref _), (3, .int _), (4, .ref _), (5, .int _), (6, .ref _)]) dX10_encodes_13 (Nat.le_of_ble_eq_true rfl) rfl ?_
  refine X_aload_n (pc := 15) 2 dX10_encodes_15 rfl rfl ?_
  refine X_getfield (pc := 16) dX10_encodes_16 fg_X10_513_11 (MW.ob w) mf_69 ?_
  refine X_iload_n (pc := 19) 3 dX10_encodes_19 rfl rfl ?_
  refine X_iaload (pc := 20) dX10_encodes_20 (w.i 69 rfl) bk ?_
  refine X_istore (pc := 21) (L' := [(9, .int _), (8, .int _), (7, .ref _), (0, .ref _), (1, .int _), (2, .ref _), (3, .int _), (4, .ref _), (5, .int _), (6, .ref _)]) dX10_encodes_21 (Nat.le_of_ble_eq_true rfl) rfl ?_
  refine X_aload_n (pc := 23) 3 dX10_encodes_23 rfl rfl ?_
  refine X_aload_n (pc := 24) 5 dX10_encodes_24 rfl rfl ?_
  refine X_iload_n (pc := 25) 6 dX10_encodes_25 rfl rfl ?_
  refine X_aload (pc := 26) 7 dX10_encodes_26 rfl ?_
  refine X_iload (pc := 28) 8 dX10_encodes_28 rfl ?_
  refine X_iload (pc := 30) 0 dX10_encodes_30 rfl ?_
  rw [ck, hs]
  refine X_ivv (pc := 32) _ dX10_encodes_32 cv_X10_592_11 (MW.ob w) rfl (salted_ok g w (n := s) hki hni (rK_h hi2) hiB hfr hks hns (rK_h hs3) hsB hat hs2) nX10_salted (Nat.le_of_ble_eq_true rfl) (Nat.le_of_ble_eq_true rfl) (Nat.le_of_ble_eq_true rfl) (Nat.le_of_ble_eq_true rfl) (fun h2 q2 => ?_)
  obtain ⟨S2, w2, fS2, s87⟩ := q2
  rw [hst, hin] at s87
  refine X_iload (pc := 35) 1 dX10_encodes_35 rfl ?_
  refine X_bipush (pc := 37) (x := 49) dX10_encodes_37 (by decide) ?_
  refine X_isub (pc := 39) dX10_encodes_39 ?_
  rw [sub1]
  refine X_istore (pc := 40) (L' := [(10, .int _), (9, .int _), (8, .int _), (7, .ref _), (0, .ref _), (1, .int _), (2, .ref _), (3, .int _), (4, .ref _), (5, .int _), (6, .ref _)]) dX10_encodes_40 (Nat.le_of_ble_eq_true rfl) rfl ?_
  refine X_aload_n (pc := 42) 4 dX10_encodes_42 rfl rfl ?_
  refine X_aload_n (pc := 43) 4 dX10_encodes_43 rfl rfl ?_
  refine X_getfield (pc := 44) dX10_encodes_44 fg_X10_546_11 (MW.ob w2) mf_87 ?_
  refine X_iconst (pc := 47) (x := 0) dX10_encodes_47 (by decide) ?_
  refine X_iload (pc := 48) 0 dX10_encodes_48 rfl ?_
  refine X_ivv (pc := 50) _ dX10_encodes_50 cv_X10_596_11 (MW.ob w2) rfl (masks_ok g w2 (up_same _ _ _) (kb := 87) (at' := 0) (many := db) rfl (by decide) rfl (by rw [s87]; exact hinB) (by rw [s87, hinl]; decide) (by omega)) nX10_masks (Nat.le_of_ble_eq_true rfl) (Nat.le_of_ble_eq_true rfl) (Nat.le_of_ble_eq_true rfl) (Nat.le_of_ble_eq_true rfl) (fun h3 q3 => ?_)
  obtain ⟨S3, w3, fS3, s86⟩ := q3
  rw [s87, sub_all hinl] at s86
  refine X_iconst (pc := 53) (x := 0) dX10_encodes_53 (by decide) ?_
  refine X_istore (pc := 54) (L' := [(11, .int _), (10, .int _), (9, .int _), (8, .int _), (7, .ref _), (0, .ref _), (1, .int _), (2, .ref _), (3, .int _), (4, .ref _), (5, .int _), (6, .ref _)]) dX10_encodes_54 (Nat.le_of_ble_eq_true rfl) rfl ?_
  refine loop1 db 0 (by omega) S3 h3 ?_ (fun j hj => ?_) ?_ s86
  · rw [List.range_zero, List.map_nil]
    exact w3.cutS 85 rfl
  · rw [fS3 j (rK_m hj)]; exact fS2 j (rK_s hj)
  · rw [fS3 87 rfl]; exact s87
end MEn
