set_option maxRecDepth 100000
/-! the reference: words and tags -/
/-- all of a list are bytes -/
def IsB (l : List Int32) : Prop := ∀ x ∈ l, tb (u32 x) = x
theorem tb_tb (v : Nat) : tb (u32 (tb v)) = tb v := by rw [← toInt8_low, tb8]
theorem IsB.at' {l : List Int32} (h : IsB l) (j : Nat) : tb (u32 (l.getD j 0)) = l.getD j 0 := by
  rw [List.getD_eq_getElem?_getD]
  cases e : l[j]? with
  | none => rfl
  | some x => exact h x (List.mem_of_getElem? e)
theorem IsB.nar {l : List Int32} (h : IsB l) (j : Nat) : (l.getD j 0).toInt8.toInt32 = l.getD j 0 := by rw [toInt8_low]; exact h.at' j
theorem IsB.app {a b : List Int32} (ha : IsB a) (hb : IsB b) : IsB (a ++ b) := fun x hx => (List.mem_append.mp hx).elim (ha x) (hb x)
theorem IsB.one (v : Nat) : IsB [tb v] := fun x hx => by rw [List.mem_singleton.mp hx]; exact tb_tb v
theorem IsB.map {α : Type} (l : List α) (f : α → Nat) : IsB (l.map fun a => tb (f a)) := fun x hx => by
  obtain ⟨a, -, rfl⟩ := List.mem_map.mp hx
  exact tb_tb _
theorem map_getD {l : List Int32} {n : Nat} (h : l.length = n) : (List.range n).map (fun j => l.getD j 0) = l := by
  apply List.ext_getElem?
  intro i
  rw [List.getElem?_map]
  by_cases c : i < n
  · rw [List.getElem?_range c, Option.map_some, List.getD_eq_getElem?_getD, List.getElem?_eq_getElem (h := by omega)]
    rfl
  · rw [List.getElem?_eq_none (by rw [List.length_range]; omega), List.getElem?_eq_none (by omega)]
    rfl
theorem bmap {l : List Int32} {n : Nat} (hb : IsB l) (h : l.length = n) : (List.range n).map (fun j => tb (u32 (l.getD j 0))) = l := by
  rw [show (fun j => tb (u32 (l.getD j 0))) = (fun j => l.getD j 0) from funext fun j => hb.at' j]
  exact map_getD h
theorem sha384_B (l : List Int32) : IsB (sha384 l) := fun x hx => by
  unfold sha384 at hx
  obtain ⟨a, -, rfl⟩ := List.mem_map.mp hx
  unfold dgL
  rw [toInt8_low]
  exact tb_tb _
theorem sha256_B (l : List Int32) : IsB (sha256 l) := fun x hx => by
  unfold sha256 at hx
  obtain ⟨a, -, rfl⟩ := List.mem_map.mp hx
  unfold dgF
  rw [toInt8_low]
  exact tb_tb _
/-- the bytes of a word -/
def wrd (tx : List Nat) : List Int32 := (List.range tx.length).map fun j => tb (tx.getD j 0)
theorem wrd_len (tx : List Nat) : (wrd tx).length = tx.length := by unfold wrd; rw [List.length_map, List.length_range]
theorem wrd_B (tx : List Nat) : IsB (wrd tx) := IsB.map _ _
def ctxB : List Int32 := wrd (chars "OPRFV1-") ++ [tb 1] ++ wrd (chars "-P384-SHA384")
theorem ctxB_len : ctxB.length = 20 := by decide
theorem ctxB_B : IsB ctxB := ((wrd_B _).app (IsB.one 1)).app (wrd_B _)
def tagB (tx : List Nat) : List Int32 := wrd tx ++ ctxB
theorem tagB_len (tx : List Nat) : (tagB tx).length = tx.length + 20 := by unfold tagB; rw [List.length_append, wrd_len, ctxB_len]
theorem tagB_B (tx : List Nat) : IsB (tagB tx) := (wrd_B _).app ctxB_B
theorem c7_all {l : List Nat} (h : l.all (fun c => decide (c < 128)) = true) (j : Nat) : l.getD j 0 < 128 := by
  rw [List.getD_eq_getElem?_getD]
  cases e : l[j]? with
  | none => exact (by decide : 0 < 128)
  | some x => exact of_decide_eq_true (List.all_eq_true.mp h x (List.mem_of_getElem? e))
theorem c7_o : ∀ j, (chars "OPRFV1-").getD j 0 < 128 := c7_all (by decide)
theorem c7_p : ∀ j, (chars "-P384-SHA384").getD j 0 < 128 := c7_all (by decide)
section MTg
variable {A : Nat → Nat} {X : AH} {R R' : Nat → Nat} {I I' : Nat → Nat → Int32} {S S' : Nat → List Int32} {F F' : Nat → Int32} {h h' : AH} {l : List Int32} {a v : Nat} {tx : List Nat}
theorem mO_ns {k : Nat} : mO A F k ≠ Sg v tx := by
  unfold mO
  split
  · intro e; cases e
  · split
    · unfold mO1
      repeat' split
      all_goals (intro e; cases e)
    · split
      · intro e; cases e
      · split
        · intro e; cases e
        · split
          · intro e; cases e
          · unfold mO2
            repeat' split
            all_goals (intro e; cases e)
theorem MW.noS (w : MW A X R I S F h) (k : Nat) (hk : (kdM k).1 ≠ 0) : h (A k) ≠ some (Sg v tx) := by
  intro e
  have := w.2.1 k
  rw [e] at this
  generalize kdM k = d at this hk
  match d, this with
  | (0, _, _), _ => exact hk rfl
  | (1, _, _), ⟨f, e1, _⟩ => cases e1
  | (2, _, _), ⟨f, e1, _⟩ => cases e1
  | (3, _, _), e1 => cases e1
  | (4, _, _), ⟨f, e1⟩ => cases e1
  | (5, _, _), ⟨f, e1⟩ => cases e1
  | (6, _, _), ⟨f, e1, _⟩ => cases e1
  | (n + 7, _, _), e1 => exact mO_ns (Option.some.inj e1).symm
/-- texts stay -/
theorem MW.txt (w : MW A X R I S F h) (w' : MW A X R' I' S' F' h') (ha : h a = some (Sg v tx)) : h' a = some (Sg v tx) := by
  have ho : ∀ k, (kdM k).1 ≠ 0 → A k ≠ a := fun k hk e => w.noS (v := v) (tx := tx) k hk (e ▸ ha)
  rw [w'.2.2 a ho, ← w.2.2 a ho]
  exact ha
theorem word_ok (g : GX) (w : SW A X R I S F l h) (ha : h a = some (Sg v tx)) (h7 : ∀ j, tx.getD j 0 < 128) (hl : l.length + tx.length ≤ 2600) :
    MT g MX10_word ({ frames := 5, cells := 0, slots := 0, locals := 106 } : Room) [.ref (A 96), .ref a] h (RV fun h' => SW A X R I S F (l ++ wrd tx) h') := by
  refine MT.of (by decide) (Nat.le_of_ble_eq_true rfl) ?_
  generalize hPost : (RV fun h' => SW A X R I S F (l ++ wrd tx) h') = Post
  have loop : ∀ m i, i + m = tx.length → ∀ h', SW A X R I S F (l ++ (List.range i).map fun j => tb (tx.getD j 0)) h' →
      XX g MX10_word ({ frames := 5, cells := 0, slots := 0, locals := 106 } : Room) Post 0 0 2 [(2, .int (nI i)), (0, .ref (A 96)), (1, .ref a)] [] h' := by
    intro m
    induction m with
    | zero =>
      intro i hi h' w'
      have ha' := MW.txt w w' ha
      refine X_iload_n (pc := 2) 0 dX10_word_2 rfl rfl ?_
      refine X_aload_n (pc := 3) 2 dX10_word_3 rfl rfl ?_
      refine X_iti (pc := 4) _ dX10_word_4 cvs_X10_250 ha' rfl (slen_ok g ha' (by omega)) nJ0_length (Nat.le_of_ble_eq_true rfl) (Nat.le_of_ble_eq_true rfl) (Nat.le_of_ble_eq_true rfl) (Nat.le_of_ble_eq_true rfl) (fun r1 h1 q1 => ?_)
      obtain ⟨rfl, rfl⟩ := q1
      refine X_cge (pc := 7) 25 dX10_word_7 (by decide) (by omega) (by omega) (fun _ => ?_) (fun c => absurd c (by omega))
      subst hPost
      refine X_return (pc := 25) dX10_word_25 rfl (Nat.le_of_ble_eq_true rfl) (Nat.le_of_ble_eq_true rfl) ?_
      have e : i = tx.length := by omega
      rw [e] at w'
      exact ⟨rfl, w'⟩
    | succ m ih =>
      intro i hi h' w'
      have ha' := MW.txt w w' ha
      refine X_iload_n (pc := 2) 0 dX10_word_2 rfl rfl ?_
      refine X_aload_n (pc := 3) 2 dX10_word_3 rfl rfl ?_
      refine X_iti (pc := 4) _ dX10_word_4 cvs_X10_250 ha' rfl (slen_ok g ha' (by omega)) nJ0_length (Nat.le_of_ble_eq_true rfl) (Nat.le_of_ble_eq_true rfl) (Nat.le_of_ble_eq_true rfl) (Nat.le_of_ble_eq_true rfl) (fun r1 h1 q1 => ?_)
      obtain ⟨rfl, rfl⟩ := q1
      refine X_cge (pc := 7) 25 dX10_word_7 (by decide) (by omega) (by omega) (fun c => absurd c (by omega)) (fun _ => ?_)
      refine X_aload_n (pc := 10) 1 dX10_word_10 rfl rfl ?_
      refine X_aload_n (pc := 11) 2 dX10_word_11 rfl rfl ?_
      refine X_iload_n (pc := 12) 0 dX10_word_12 rfl rfl ?_
      refine X_iti (pc := 13) _ dX10_word_13 cvs_X10_256 ha' rfl (chat_ok g ha' h7 (i := i) (by omega) (by omega)) nJ0_charAt (Nat.le_of_ble_eq_true rfl) (Nat.le_of_ble_eq_true rfl) (Nat.le_of_ble_eq_true rfl) (Nat.le_of_ble_eq_true rfl) (fun r1 h1 q1 => ?_)
      obtain ⟨rfl, rfl⟩ := q1
      refine X_ivv (pc := 16) _ dX10_word_16 cv_X10_246_11 (MW.ob w') rfl (say_ok g w' (by rw [List.length_append, List.length_map, List.length_range]; omega) _) nX10_say_2 (Nat.le_of_ble_eq_true rfl) (Nat.le_of_ble_eq_true rfl) (Nat.le_of_ble_eq_true rfl) (Nat.le_of_ble_eq_true rfl) (fun h2 w2 => ?_)
      rw [tb_u, List.append_assoc, ← List.map_singleton (f := fun j => tb (tx.getD j 0)), ← List.map_append, ← List.range_succ] at w2
      refine X_iinc (pc := 19) (L' := [(2, .int (_ + 1)), (0, .ref _), (1, .ref _)]) 0 dX10_word_19 rfl rfl (Nat.le_of_ble_eq_true rfl) rfl ?_
      refine X_goto (pc := 22) 2 dX10_word_22 (by decide) ?_
      rw [show nI i + 1 = nI (i + 1) from nI_add i 1]
      exact ih (i + 1) (by omega) h2 w2
  refine X_iconst (pc := 0) (x := 0) dX10_word_0 (by decide) ?_
  refine X_istore_n (pc := 1) (L' := [(2, .int _), (0, .ref _), (1, .ref _)]) dX10_word_1 rfl (Nat.le_of_ble_eq_true rfl) rfl ?_
  exact loop tx.length 0 (by omega) h (by rw [List.range_zero, List.map_nil, List.append_nil]; exact w)
theorem context_ok (g : GX) (w : SW A X R I S F l h) (hl : l.length + 20 ≤ 2600) :
    MT g MX10_context ({ frames := 6, cells := 0, slots := 0, locals := 128 } : Room) [.ref (A 96)] h (RV fun h' => SW A X R I S F (l ++ ctxB) h') := by
  refine MT.of (by decide) (Nat.le_of_ble_eq_true rfl) ?_
  have e7 : (chars "OPRFV1-").length = 7 := by decide
  have e12 : (chars "-P384-SHA384").length = 12 := by decide
  refine X_aload_n (pc := 0) 0 dX10_context_0 rfl rfl ?_
  refine X_ldcwS (pc := 1) (j := 15) dX10_context_1 rfl (fun tx_1 vx_1 ht_1 => ?_)
  refine X_ivv (pc := 4) _ dX10_context_4 cv_X10_262_11 (MW.ob w) rfl (word_ok g w ht_1 c7_o (by omega)) nX10_word (Nat.le_of_ble_eq_true rfl) (Nat.le_of_ble_eq_true rfl) (Nat.le_of_ble_eq_true rfl) (Nat.le_of_ble_eq_true rfl) (fun h1 w1 => ?_)
  refine X_aload_n (pc := 7) 0 dX10_context_7 rfl rfl ?_
  refine X_iconst (pc := 8) (x := 1) dX10_context_8 (by decide) ?_
  refine X_ivv (pc := 9) _ dX10_context_9 cv_X10_246_11 (MW.ob w1) rfl (say_ok g w1 (by rw [List.length_append, wrd_len]; omega) 1) nX10_say_2 (Nat.le_of_ble_eq_true rfl) (Nat.le_of_ble_eq_true rfl) (Nat.le_of_ble_eq_true rfl) (Nat.le_of_ble_eq_true rfl) (fun h2 w2 => ?_)
  refine X_aload_n (pc := 12) 0 dX10_context_12 rfl rfl ?_
  refine X_ldcwS (pc := 13) (j := 16) dX10_context_13 rfl (fun tx_13 vx_13 ht_13 => ?_)
  refine X_ivv (pc := 16) _ dX10_context_16 cv_X10_262_11 (MW.ob w2) rfl (word_ok g w2 ht_13 c7_p (by rw [List.length_append, List.length_append, wrd_len]; show l.length + _ + 1 + _ ≤ 2600; omega)) nX10_word (Nat.le_of_ble_eq_true rfl) (Nat.le_of_ble_eq_true rfl) (Nat.le_of_ble_eq_true rfl) (Nat.le_of_ble_eq_true rfl) (fun h3 w3 => ?_)
  refine X_return (pc := 19) dX10_context_19 rfl (Nat.le_of_ble_eq_true rfl) (Nat.le_of_ble_eq_true rfl) ?_
  rw [List.append_assoc, List.append_assoc] at w3
  refine ⟨rfl, ?_⟩
  unfold ctxB
  rw [List.append_assoc]
  exact w3
/-- nothing has been said -/
theorem MW.cut0 (w : MW A X R I S F h) : SW A X R I S F [] (hset h (A 96) (Ob 11 ((mFl A F).set 26 (.int 0)))) := (w.setF26 (v := 0)).cutS 25 rfl
theorem tags_ok (g : GX) (w : MW A X R I S F h) (ha : h a = some (Sg v tx)) (h7 : ∀ j, tx.getD j 0 < 128) (hl : tx.length + 20 ≤ 48) :
    MT g MX10_tags ({ frames := 7, cells := 0, slots := 0, locals := 148 } : Room) [.ref (A 96), .ref a] h (RV fun h' => SW A X R I (up S 34 (tagB tx)) (up F 35 (nI (tx.length + 20))) [] h') := by
  refine MT.of (by decide) (Nat.le_of_ble_eq_true rfl) ?_
  generalize hPost : (RV fun h' => SW A X R I (up S 34 (tagB tx)) (up F 35 (nI (tx.length + 20))) [] h') = Post
  have hlt := tagB_len tx
  have hbt := tagB_B tx
  refine X_aload_n (pc := 0) 0 dX10_tags_0 rfl rfl ?_
  refine X_iconst (pc := 1) (x := 0) dX10_tags_1 (by decide) ?_
  refine X_putfield (pc := 2) dX10_tags_2 fp_X10_243_11 (fun e => by cases e) (MW.ob w) rfl rfl (Nat.le_of_ble_eq_true rfl) ?_
  have w1 := w.cut0
  have ha1 := MW.txt w w1 ha
  generalize hset h (A 96) (Ob 11 ((mFl A F).set 26 (.int 0))) = h1 at *
  refine X_aload_n (pc := 5) 0 dX10_tags_5 rfl rfl ?_
  refine X_aload_n (pc := 6) 1 dX10_tags_6 rfl rfl ?_
  refine X_ivv (pc := 7) _ dX10_tags_7 cv_X10_262_11 (MW.ob w1) rfl (word_ok g w1 ha1 h7 (by show 0 + _ ≤ 2600; omega)) nX10_word (Nat.le_of_ble_eq_true rfl) (Nat.le_of_ble_eq_true rfl) (Nat.le_of_ble_eq_true rfl) (Nat.le_of_ble_eq_true rfl) (fun h2 w2 => ?_)
  refine X_aload_n (pc := 10) 0 dX10_tags_10 rfl rfl ?_
  refine X_ivv (pc := 11) _ dX10_tags_11 cv_X10_316_11 (MW.ob w2) rfl (context_ok g w2 (by show (wrd tx).length + 20 ≤ 2600; rw [wrd_len]; omega)) nX10_context (Nat.le_of_ble_eq_true rfl) (Nat.le_of_ble_eq_true rfl) (Nat.le_of_ble_eq_true rfl) (Nat.le_of_ble_eq_true rfl) (fun h3 w3 => ?_)
  have w3 : MW A X R I (up S 25 (tagB tx)) (up F 26 (nI (tagB tx).length)) h3 := w3
  generalize hT : tagB tx = T at *
  have loop : ∀ m i, i + m = T.length → ∀ h', MW A X R I (up (up S 25 T) 34 ((List.range i).map fun j => T.getD j 0)) (up F 26 (nI T.length)) h' →
      XX g MX10_tags ({ frames := 7, cells := 0, slots := 0, locals := 148 } : Room) Post 0 0 16 [(2, .int (nI i)), (0, .ref (A 96)), (1, .ref a)] [] h' := by
    intro m
    induction m with
    | zero =>
      intro i hi h' w'
      have e : i = T.length := by omega
      rw [e, map_getD rfl] at w'
      refine X_iload_n (pc := 16) 0 dX10_tags_16 rfl rfl ?_
      refine X_aload_n (pc := 17) 1 dX10_tags_17 rfl rfl ?_
      refine X_getfield (pc := 18) dX10_tags_18 fg_X10_243_11 (MW.ob w') mf_26 ?_
      rw [up_same]
      refine X_cge (pc := 21) 42 dX10_tags_21 (by decide) (by omega) (by omega) (fun _ => ?_) (fun c => absurd c (by omega))
      refine X_aload_n (pc := 42) 1 dX10_tags_42 rfl rfl ?_
      refine X_aload_n (pc := 43) 1 dX10_tags_43 rfl rfl ?_
      refine X_getfield (pc := 44) dX10_tags_44 fg_X10_243_11 (MW.ob w') mf_26 ?_
      rw [up_same]
      refine X_putfield (pc := 47) dX10_tags_47 fp_X10_322_11 (fun e => by cases e) (MW.ob w') rfl rfl (Nat.le_of_ble_eq_true rfl) ?_
      have w4 := w'.setF35 (v := nI T.length)
      refine X_aload_n (pc := 50) 1 dX10_tags_50 rfl rfl ?_
      refine X_iconst (pc := 51) (x := 0) dX10_tags_51 (by decide) ?_
      refine X_putfield (pc := 52) dX10_tags_52 fp_X10_243_11 (fun e => by cases e) (MW.ob w4) rfl rfl (Nat.le_of_ble_eq_true rfl) ?_
      have w5 := (w4.setF26 (v := 0)).cutS 25 rfl
      have eS : up (up (up S 25 T) 34 T) 25 [] = up (up S 34 T) 25 [] := by rw [up_comm S _ _ (show 25 ≠ 34 by decide), up_up']
      have eF : up (up (up F 26 (nI T.length)) 35 (nI T.length)) 26 0 = up (up F 35 (nI (tx.length + 20))) 26 0 := by rw [up_comm F _ _ (show 26 ≠ 35 by decide), up_up', hlt]
      subst hPost
      refine X_return (pc := 55) dX10_tags_55 rfl (Nat.le_of_ble_eq_true rfl) (Nat.le_of_ble_eq_true rfl) ?_
      refine ⟨rfl, ?_⟩
      show MW A X R I (up (up S 34 T) 25 []) (up (up F 35 (nI (tx.length + 20))) 26 0) _
      rw [← eS, ← eF]
      exact w5
    | succ m ih =>
      intro i hi h' w'
      have ci : (nI i).toNatClampNeg = i := nI_clamp (by omega)
      have b1 : vp_in (nI i) 48 := vp_in_nI (by omega) (by omega)
      have b2 : vp_in (nI i) 2600 := vp_in_nI (by omega) (by omega)
      obtain ⟨f25, c25, p25, l25⟩ := w'.s 25 rfl
      obtain ⟨f34, c34, p34, l34⟩ := w'.s 34 rfl
      rw [up_ne (by decide), up_same] at p25
      rw [up_same] at p34
      have hli : ((List.range i).map fun j => T.getD j 0).length = i := by rw [List.length_map, List.length_range]
      refine X_iload_n (pc := 16) 0 dX10_tags_16 rfl rfl ?_
      refine X_aload_n (pc := 17) 1 dX10_tags_17 rfl rfl ?_
      refine X_getfield (pc := 18) dX10_tags_18 fg_X10_243_11 (MW.ob w') mf_26 ?_
      rw [up_same]
      refine X_cge (pc := 21) 42 dX10_tags_21 (by decide) (by omega) (by omega) (fun c => absurd c (by omega)) (fun _ => ?_)
      refine X_aload_n (pc := 24) 1 dX10_tags_24 rfl rfl ?_
      refine X_getfield (pc := 25) dX10_tags_25 fg_X10_319_11 (MW.ob w') mf_34 ?_
      refine X_iload_n (pc := 28) 0 dX10_tags_28 rfl rfl ?_
      refine X_aload_n (pc := 29) 1 dX10_tags_29 rfl rfl ?_
      refine X_getfield (pc := 30) dX10_tags_30 fg_X10_239_11 (MW.ob w') mf_25 ?_
      refine X_iload_n (pc := 33) 0 dX10_tags_33 rfl rfl ?_
      refine X_baload (pc := 34) dX10_tags_34 c25 b2 ?_
      refine X_bastore (pc := 35) dX10_tags_35 c34 b1 ?_
      rw [ci, p25 i (by omega), hbt.nar]
      have w2 := w'.setS 34 rfl (PL_snoc (x := T.getD i 0) p34) (by rw [List.length_append, hli]; exact (show i + 1 ≤ 48 by omega))
      rw [up_up', hli, ← List.map_singleton (f := fun j => T.getD j 0), ← List.map_append, ← List.range_succ] at w2
      refine X_iinc (pc := 36) (L' := [(2, .int (_ + 1)), (0, .ref _), (1, .ref _)]) 0 dX10_tags_36 rfl rfl (Nat.le_of_ble_eq_true rfl) rfl ?_
      refine X_goto (pc := 39) 16 dX10_tags_39 (by decide) ?_
      rw [show nI i + 1 = nI (i + 1) from nI_add i 1]
      exact ih (i + 1) (by omega) _ w2
  refine X_iconst (pc := 14) (x := 0) dX10_tags_14 (by decide) ?_
  refine X_istore_n (pc := 15) (L' := [(2, .int _), (0, .ref _), (1, .ref _)]) dX10_tags_15 rfl (Nat.le_of_ble_eq_true rfl) rfl ?_
  exact loop T.length 0 (by omega) h3 (w3.cutS 34 rfl)
theorem MW.byAt (w : MW A X R I S F h) (k : Nat) {t n : Nat} (hk : kdM k = (6, t, n)) (hn : n < 2 ^ 31) {fr m : Nat} (hm : fr + m ≤ (S k).length) : ByAt h (A k) fr m (fun j => (S k).getD (fr + j) 0) := by
  obtain ⟨f, c1, c2, c3⟩ := w.s k hk
  exact ⟨false, n, f, c1, by omega, hn, fun j hj => c2 _ (by omega)⟩
theorem ends_ok (g : GX) (w : SW A X R I S F l h) {T : List Int32} (h34 : S 34 = T) (h35 : F 35 = nI T.length) (hT : IsB T) (hT2 : T.length ≤ 48) (hl : l.length + T.length + 1 ≤ 2600) :
    MT g MX10_endsTag ({ frames := 2, cells := 0, slots := 0, locals := 45 } : Room) [.ref (A 96)] h (RV fun h' => SW A X R I S F (l ++ T ++ [tb T.length]) h') := by
  refine MT.of (by decide) (Nat.le_of_ble_eq_true rfl) ?_
  have w' : MW A X R I (up S 25 l) (up F 26 (nI l.length)) h := w
  refine X_aload_n (pc := 0) 0 dX10_endsTag_0 rfl rfl ?_
  refine X_aload_n (pc := 1) 0 dX10_endsTag_1 rfl rfl ?_
  refine X_getfield (pc := 2) dX10_endsTag_2 fg_X10_319_11 (MW.ob w') mf_34 ?_
  refine X_iconst (pc := 5) (x := 0) dX10_endsTag_5 (by decide) ?_
  refine X_aload_n (pc := 6) 0 dX10_endsTag_6 rfl rfl ?_
  refine X_getfield (pc := 7) dX10_endsTag_7 fg_X10_322_11 (MW.ob w') mf_35 ?_
  rw [up_ne (by decide), h35]
  refine X_ivv (pc := 10) _ dX10_endsTag_10 cv_X10_325_11 (MW.ob w) rfl (says_ok g w (b := A 34) (at' := 0) (n := T.length) (src := fun j => T.getD j 0) (by omega) (by omega) (fun {l' h'} w2 => Or.inr (by have := MW.byAt (fr := 0) (m := T.length) w2 34 rfl (by decide) (by rw [up_ne (by decide), h34]; omega); rw [up_ne (by decide), h34] at this; simpa only [Nat.zero_add] using this))) nX10_say (Nat.le_of_ble_eq_true rfl) (Nat.le_of_ble_eq_true rfl) (Nat.le_of_ble_eq_true rfl) (Nat.le_of_ble_eq_true rfl) (fun h1 w1 => ?_)
  rw [bmap hT rfl] at w1
  have w1' : MW A X R I (up S 25 (l ++ T)) (up F 26 (nI (l ++ T).length)) h1 := w1
  refine X_aload_n (pc := 13) 0 dX10_endsTag_13 rfl rfl ?_
  refine X_aload_n (pc := 14) 0 dX10_endsTag_14 rfl rfl ?_
  refine X_getfield (pc := 15) dX10_endsTag_15 fg_X10_322_11 (MW.ob w1') mf_35 ?_
  rw [up_ne (by decide), h35]
  refine X_ivv (pc := 18) _ dX10_endsTag_18 cv_X10_246_11 (MW.ob w1) rfl (say_ok g w1 (by rw [List.length_append]; omega) _) nX10_say_2 (Nat.le_of_ble_eq_true rfl) (Nat.le_of_ble_eq_true rfl) (Nat.le_of_ble_eq_true rfl) (Nat.le_of_ble_eq_true rfl) (fun h2 w2 => ?_)
  rw [tb_u] at w2
  refine X_return (pc := 21) dX10_endsTag_21 rfl (Nat.le_of_ble_eq_true rfl) (Nat.le_of_ble_eq_true rfl) ?_
  exact ⟨rfl, w2⟩
end MTg
