set_option maxRecDepth 100000
/-! VeilMint: words, tags, the expansion of a message -/
theorem cvs_X2_34 : CVS RX2 34 MJ0_length := ⟨wJ0_length, q104, q202, q972, q203, by decide, by decide⟩
theorem cvs_X2_40 : CVS RX2 40 MJ0_charAt := ⟨wJ0_charAt, q104, q212, q973, q213, by decide, by decide⟩
theorem cvs_X5_205 : CVS RX5 205 MJ0_length := ⟨wJ0_length, q104, q202, q954, q203, by decide, by decide⟩
theorem take_sub {l : List Int32} {n m : Nat} (h : m ≤ n) : (sub l 0 n).take m = sub l 0 m := by
  unfold sub
  rw [← List.map_take, List.take_range, Nat.min_eq_left h]
theorem getD_take {l : List Int32} {n j : Nat} (h : j < n) : (l.take n).getD j 0 = l.getD j 0 := by
  rw [List.getD_eq_getElem?_getD, List.getElem?_take, if_pos h, ← List.getD_eq_getElem?_getD]
theorem sub_at {l : List Int32} {fr n j : Nat} (h : j < n) : (sub l fr n).getD j 0 = l.getD (fr + j) 0 := by
  unfold sub
  exact getD_map_range h
/-- a copy into a row of bytes -/
theorem PL_cpy {f g : Nat → Int32} {ls lt : List Int32} {sN dN n : Nat} (hf : PL f ls) (hg : PL g lt) (h1 : dN ≤ lt.length) (h2 : sN + n ≤ ls.length) : PL (va_cpy f g sN dN n) (lt.take dN ++ sub ls sN n) := fun j hj => by
  rw [List.length_append, List.length_take, sub_len, Nat.min_eq_left h1] at hj
  by_cases c : j < dN
  · rw [pk_cpy_out (Or.inl c), hg j (by omega), List.getD_eq_getElem?_getD (l := _ ++ _), List.getElem?_append_left (by rw [List.length_take]; omega), ← List.getD_eq_getElem?_getD, getD_take c]
  · rw [pk_cpy_in (by omega) (by omega), hf _ (by omega), List.getD_eq_getElem?_getD (l := _ ++ _), List.getElem?_append_right (by rw [List.length_take]; omega), ← List.getD_eq_getElem?_getD, List.length_take, Nat.min_eq_left h1, sub_at (by omega)]
section XX21
variable {kd : Nat → KD} {A : Nat → Nat} {X : AH} {R : Nat → Nat} {S : Nat → List Int32} {O : Nat → AC} {F : Nat → Int32} {h : AH} {l : List Int32} {a v : Nat} {tx : List Nat}
/-- the row behind a copy -/
theorem XW.cpy (w : XW kd A X R S O F h) {ks kt ns nt sN dN n : Nat} {f g : Nat → Int32} (hkt : kd kt = (6, 2, nt)) (hf : PL f (S ks)) (hg : PL g (S kt)) (h1 : dN ≤ (S kt).length) (h2 : sN + n ≤ (S ks).length) (h3 : dN + n ≤ nt) :
    XW kd A X R (up S kt ((S kt).take dN ++ sub (S ks) sN n)) O F (hset h (A kt) (Ai false 2 nt (va_cpy f g sN dN n))) :=
  w.setS kt hkt (PL_cpy hf hg h1 h2) (by rw [List.length_append, List.length_take, sub_len, Nat.min_eq_left h1]; exact h3)
theorem wordL_ok (g : GX) (d : DL kd A X R S O F l h) (ha : h a = some (Sg v tx)) (h7 : ∀ j, tx.getD j 0 < 128) (hl : l.length + tx.length + 1 < 2 ^ 28) :
    MT g MX2_word ({ frames := 5, cells := 0, slots := 0, locals := 106 } : Room) [.ref (A 6), .ref a] h (RR fun r h' => r = A 6 ∧ DL kd A X R S O F (l ++ wrd tx) h') := by
  refine MT.of (by decide) (Nat.le_of_ble_eq_true rfl) ?_
  generalize hPost : (RR fun r h' => r = A 6 ∧ DL kd A X R S O F (l ++ wrd tx) h') = Post
  have loop : ∀ m i, i + m = tx.length → ∀ h', DL kd A X R S O F (l ++ (List.range i).map fun j => tb (tx.getD j 0)) h' →
      XX g MX2_word ({ frames := 5, cells := 0, slots := 0, locals := 106 } : Room) Post 0 0 2 [(2, .int (nI i)), (0, .ref (A 6)), (1, .ref a)] [] h' := by
    intro m
    induction m with
    | zero =>
      intro i hi h' d'
      have ha' := XW.txt d.1 d'.1 ha
      refine X_iload_n (pc := 2) 0 dX2_word_2 rfl rfl ?_
      refine X_aload_n (pc := 3) 2 dX2_word_3 rfl rfl ?_
      refine X_iti (pc := 4) _ dX2_word_4 cvs_X2_34 ha' rfl (slen_ok g ha' (by omega)) nJ0_length (Nat.le_of_ble_eq_true rfl) (Nat.le_of_ble_eq_true rfl) (Nat.le_of_ble_eq_true rfl) (Nat.le_of_ble_eq_true rfl) (fun r1 h1 q1 => ?_)
      obtain ⟨rfl, rfl⟩ := q1
      refine X_cge (pc := 7) 26 dX2_word_7 (by decide) (by omega) (by omega) (fun _ => ?_) (fun c => absurd c (by omega))
      refine X_aload_n (pc := 26) 1 dX2_word_26 rfl rfl ?_
      subst hPost
      refine X_aret (pc := 27) dX2_word_27 rfl (Or.inl ⟨_, rfl⟩) (Or.inr ⟨_, rfl⟩) (Nat.le_of_ble_eq_true rfl) (Nat.le_of_ble_eq_true rfl) ?_
      have e : i = tx.length := by omega
      rw [e] at d'
      exact ⟨_, rfl, rfl, d'⟩
    | succ m ih =>
      intro i hi h' d'
      have ha' := XW.txt d.1 d'.1 ha
      refine X_iload_n (pc := 2) 0 dX2_word_2 rfl rfl ?_
      refine X_aload_n (pc := 3) 2 dX2_word_3 rfl rfl ?_
      refine X_iti (pc := 4) _ dX2_word_4 cvs_X2_34 ha' rfl (slen_ok g ha' (by omega)) nJ0_length (Nat.le_of_ble_eq_true rfl) (Nat.le_of_ble_eq_true rfl) (Nat.le_of_ble_eq_true rfl) (Nat.le_of_ble_eq_true rfl) (fun r1 h1 q1 => ?_)
      obtain ⟨rfl, rfl⟩ := q1
      refine X_cge (pc := 7) 26 dX2_word_7 (by decide) (by omega) (by omega) (fun c => absurd c (by omega)) (fun _ => ?_)
      refine X_aload_n (pc := 10) 1 dX2_word_10 rfl rfl ?_
      refine X_aload_n (pc := 11) 2 dX2_word_11 rfl rfl ?_
      refine X_iload_n (pc := 12) 0 dX2_word_12 rfl rfl ?_
      refine X_iti (pc := 13) _ dX2_word_13 cvs_X2_40 ha' rfl (chat_ok g ha' h7 (i := i) (by omega) (by omega)) nJ0_charAt (Nat.le_of_ble_eq_true rfl) (Nat.le_of_ble_eq_true rfl) (Nat.le_of_ble_eq_true rfl) (Nat.le_of_ble_eq_true rfl) (fun r1 h1 q1 => ?_)
      obtain ⟨rfl, rfl⟩ := q1
      refine X_ivr (pc := 16) _ dX2_word_16 cv_X2_30_2 (XW.dL d'.1) rfl (xputL_ok g d' _ (by rw [List.length_append, List.length_map, List.length_range]; omega)) nX2_put_2 (Nat.le_of_ble_eq_true rfl) (Nat.le_of_ble_eq_true rfl) (Nat.le_of_ble_eq_true rfl) (Nat.le_of_ble_eq_true rfl) (fun r2 h2 q2 => ?_)
      obtain ⟨rfl, d2⟩ := q2
      rw [tb_i, List.append_assoc, ← List.map_singleton (f := fun j => tb (tx.getD j 0)), ← List.map_append, ← List.range_succ] at d2
      refine X_pop (pc := 19) dX2_word_19 rfl ?_
      refine X_iinc (pc := 20) (L' := [(2, .int (_ + 1)), (0, .ref _), (1, .ref _)]) 0 dX2_word_20 rfl rfl (Nat.le_of_ble_eq_true rfl) rfl ?_
      refine X_goto (pc := 23) 2 dX2_word_23 (by decide) ?_
      rw [show nI i + 1 = nI (i + 1) from nI_add i 1]
      exact ih (i + 1) (by omega) h2 d2
  refine X_iconst (pc := 0) (x := 0) dX2_word_0 (by decide) ?_
  refine X_istore_n (pc := 1) (L' := [(2, .int _), (0, .ref _), (1, .ref _)]) dX2_word_1 rfl (Nat.le_of_ble_eq_true rfl) rfl ?_
  exact loop tx.length 0 (by omega) h (by rw [List.range_zero, List.map_nil, List.append_nil]; exact d)
theorem tagX_ok (g : GX) (d : DL kd A X R S O F l h) (ha : h a = some (Sg v tx)) (h7 : ∀ j, tx.getD j 0 < 128) (htx : tx.length ≤ 100) (hl : l.length + 300 < 2 ^ 28) (c : Nat) :
    MT g MX5_tag ({ frames := 6, cells := 0, slots := 0, locals := 128 } : Room) [.ref (A 11), .ref a, .int (nI c)] h (RV fun h' => DL kd A X R S O F (l ++ tagB tx ++ [tb c]) h') := by
  refine MT.of (by decide) (Nat.le_of_ble_eq_true rfl) ?_
  have e7 : (chars "OPRFV1-").length = 7 := by decide
  have e12 : (chars "-P384-SHA384").length = 12 := by decide
  refine X_aload_n (pc := 0) 0 dX5_tag_0 rfl rfl ?_
  refine X_getfield (pc := 1) dX5_tag_1 fg_X5_91_3 (XW.cv d.1) (by first | rfl | assumption) ?_
  refine X_aload_n (pc := 4) 1 dX5_tag_4 rfl rfl ?_
  refine X_ivr (pc := 5) _ dX5_tag_5 cv_X5_188_2 (XW.dL d.1) rfl (wordL_ok g d ha h7 (by omega)) nX2_word (Nat.le_of_ble_eq_true rfl) (Nat.le_of_ble_eq_true rfl) (Nat.le_of_ble_eq_true rfl) (Nat.le_of_ble_eq_true rfl) (fun r1 h1 q1 => ?_)
  obtain ⟨rfl, d1⟩ := q1
  refine X_ldcS (pc := 8) (j := 6) dX5_tag_8 rfl (fun tx_8 vx_8 ht_8 => ?_)
  refine X_ivr (pc := 10) _ dX5_tag_10 cv_X5_196_2 (XW.dL d1.1) rfl (wordL_ok g d1 ht_8 (c7_all (by decide)) (by rw [List.length_append, wrd_len, e7]; omega)) nX2_word (Nat.le_of_ble_eq_true rfl) (Nat.le_of_ble_eq_true rfl) (Nat.le_of_ble_eq_true rfl) (Nat.le_of_ble_eq_true rfl) (fun r2 h2 q2 => ?_)
  obtain ⟨rfl, d2⟩ := q2
  have l2 : (l ++ wrd tx ++ wrd (chars "OPRFV1-")).length = l.length + tx.length + 7 := by rw [List.length_append, List.length_append, wrd_len, wrd_len, e7]
  refine X_iconst (pc := 13) (x := 1) dX5_tag_13 (by decide) ?_
  refine X_ivr (pc := 14) _ dX5_tag_14 cv_X5_199_2 (XW.dL d2.1) rfl (xputL_ok g d2 1 (by rw [l2]; omega)) nX2_put_2 (Nat.le_of_ble_eq_true rfl) (Nat.le_of_ble_eq_true rfl) (Nat.le_of_ble_eq_true rfl) (Nat.le_of_ble_eq_true rfl) (fun r3 h3 q3 => ?_)
  obtain ⟨rfl, d3⟩ := q3
  have l3 : (l ++ wrd tx ++ wrd (chars "OPRFV1-") ++ [(1 : Int32).toInt8.toInt32]).length = l.length + tx.length + 8 := by rw [List.length_append, l2]; rfl
  refine X_ldcS (pc := 17) (j := 7) dX5_tag_17 rfl (fun tx_17 vx_17 ht_17 => ?_)
  refine X_ivr (pc := 19) _ dX5_tag_19 cv_X5_196_2 (XW.dL d3.1) rfl (wordL_ok g d3 ht_17 (c7_all (by decide)) (by rw [l3, e12]; omega)) nX2_word (Nat.le_of_ble_eq_true rfl) (Nat.le_of_ble_eq_true rfl) (Nat.le_of_ble_eq_true rfl) (Nat.le_of_ble_eq_true rfl) (fun r4 h4 q4 => ?_)
  obtain ⟨rfl, d4⟩ := q4
  have l4 : (l ++ wrd tx ++ wrd (chars "OPRFV1-") ++ [(1 : Int32).toInt8.toInt32] ++ wrd (chars "-P384-SHA384")).length = l.length + tx.length + 20 := by rw [List.length_append, l3, wrd_len, e12]
  refine X_iload_n (pc := 22) 2 dX5_tag_22 rfl rfl ?_
  refine X_ivr (pc := 23) _ dX5_tag_23 cv_X5_199_2 (XW.dL d4.1) rfl (xputL_ok g d4 _ (by rw [l4]; omega)) nX2_put_2 (Nat.le_of_ble_eq_true rfl) (Nat.le_of_ble_eq_true rfl) (Nat.le_of_ble_eq_true rfl) (Nat.le_of_ble_eq_true rfl) (fun r5 h5 q5 => ?_)
  obtain ⟨rfl, d5⟩ := q5
  rw [tb_i] at d5
  refine X_pop (pc := 26) dX5_tag_26 rfl ?_
  refine X_return (pc := 27) dX5_tag_27 rfl (Nat.le_of_ble_eq_true rfl) (Nat.le_of_ble_eq_true rfl) ?_
  refine ⟨rfl, ?_⟩
  have e : l ++ wrd tx ++ wrd (chars "OPRFV1-") ++ [(1 : Int32).toInt8.toInt32] ++ wrd (chars "-P384-SHA384") = l ++ tagB tx := by
    unfold tagB ctxB
    rw [show (1 : Int32).toInt8.toInt32 = tb 1 from by decide]
    simp only [List.append_assoc]
  rw [e] at d5
  exact d5
theorem beginX_ok (g : GX) (w : XW kd A X R S O F h) : MT g MX5_begin ({ frames := 3, cells := 0, slots := 0, locals := 88 } : Room) [.ref (A 11)] h (RR fun r h' => r = A 6 ∧ DL kd A X R S O F zer128 h') := by
  refine MT.of (by decide) (Nat.le_of_ble_eq_true rfl) ?_
  have loop : ∀ m i, i + m = 128 → ∀ h', DL kd A X R S O F (List.replicate i (tb 0)) h' → XX g MX5_begin ({ frames := 3, cells := 0, slots := 0, locals := 88 } : Room) (RR fun r h' => r = A 6 ∧ DL kd A X R S O F zer128 h') 0 0 10 [(1, .int (nI i)), (0, .ref (A 11))] [] h' := by
    intro m
    induction m with
    | zero =>
      intro i hi h' d'
      have e : i = 128 := by omega
      subst e
      refine X_iload_n (pc := 10) 0 dX5_begin_10 rfl rfl ?_
      refine X_sipush (pc := 11) (x := 128) dX5_begin_11 (by decide) ?_
      refine X_cge (a := 128) (b := 128) (pc := 14) 32 dX5_begin_14 (by decide) (by omega) (by omega) (fun _ => ?_) (fun c => absurd c (by omega))
      refine X_aload_n (pc := 32) 1 dX5_begin_32 rfl rfl ?_
      refine X_getfield (pc := 33) dX5_begin_33 fg_X5_91_3 (XW.cv d'.1) (by first | rfl | assumption) ?_
      refine X_aret (pc := 36) dX5_begin_36 rfl (Or.inl ⟨_, rfl⟩) (Or.inr ⟨_, rfl⟩) (Nat.le_of_ble_eq_true rfl) (Nat.le_of_ble_eq_true rfl) ?_
      exact ⟨_, rfl, rfl, d'⟩
    | succ m ih =>
      intro i hi h' d'
      refine X_iload_n (pc := 10) 0 dX5_begin_10 rfl rfl ?_
      refine X_sipush (pc := 11) (x := 128) dX5_begin_11 (by decide) ?_
      refine X_cge (b := 128) (pc := 14) 32 dX5_begin_14 (by decide) (by omega) (by omega) (fun c => absurd c (by omega)) (fun _ => ?_)
      refine X_aload_n (pc := 17) 1 dX5_begin_17 rfl rfl ?_
      refine X_getfield (pc := 18) dX5_begin_18 fg_X5_91_3 (XW.cv d'.1) (by first | rfl | assumption) ?_
      refine X_iconst (pc := 21) (x := 0) dX5_begin_21 (by decide) ?_
      refine X_ivr (pc := 22) _ dX5_begin_22 cv_X5_232_2 (XW.dL d'.1) rfl (xputL_ok g d' 0 (by rw [List.length_replicate]; omega)) nX2_put_2 (Nat.le_of_ble_eq_true rfl) (Nat.le_of_ble_eq_true rfl) (Nat.le_of_ble_eq_true rfl) (Nat.le_of_ble_eq_true rfl) (fun r2 h2 q2 => ?_)
      obtain ⟨rfl, d2⟩ := q2
      rw [show List.replicate i (tb 0) ++ [(0 : Int32).toInt8.toInt32] = List.replicate (i + 1) (tb 0) by rw [List.replicate_succ']; rfl] at d2
      refine X_pop (pc := 25) dX5_begin_25 rfl ?_
      refine X_iinc (pc := 26) (L' := [(1, .int (_ + 1)), (0, .ref _)]) 0 dX5_begin_26 rfl rfl (Nat.le_of_ble_eq_true rfl) rfl ?_
      refine X_goto (pc := 29) 10 dX5_begin_29 (by decide) ?_
      rw [show nI i + 1 = nI (i + 1) from nI_add i 1]
      exact ih (i + 1) (by omega) h2 d2
  refine X_aload_n (pc := 0) 0 dX5_begin_0 rfl rfl ?_
  refine X_getfield (pc := 1) dX5_begin_1 fg_X5_91_3 (XW.cv w) (by first | rfl | assumption) ?_
  refine X_ivr (pc := 4) _ dX5_begin_4 cv_X5_228_2 (XW.dL w) rfl (xbeginL_ok g w) nX2_begin (Nat.le_of_ble_eq_true rfl) (Nat.le_of_ble_eq_true rfl) (Nat.le_of_ble_eq_true rfl) (Nat.le_of_ble_eq_true rfl) (fun r1 h1 q1 => ?_)
  obtain ⟨rfl, d1⟩ := q1
  refine X_pop (pc := 7) dX5_begin_7 rfl ?_
  refine X_iconst (pc := 8) (x := 0) dX5_begin_8 (by decide) ?_
  refine X_istore_n (pc := 9) (L' := [(1, .int _), (0, .ref _)]) dX5_begin_9 rfl (Nat.le_of_ble_eq_true rfl) rfl ?_
  exact loop 128 0 (by omega) h1 d1
/-- what hashing may change -/
def hX (j : Nat) : Bool := j == 8 || (j == 24 || (j == 25 || j == 26))
def XFr (F F' : Nat → Int32) : Prop := ∀ j, j ≠ 22 → j ≠ 23 → F' j = F j
theorem XFr.trans {F F' F'' : Nat → Int32} (h : XFr F F') (h' : XFr F' F'') : XFr F F'' := fun j a b => (h' j a b).trans (h j a b)
def XSr (S S' : Nat → List Int32) : Prop := ∀ j, hX j = false → S' j = S j
theorem XSr.trans {S S' S'' : Nat → List Int32} (h : XSr S S') (h' : XSr S' S'') : XSr S S'' := fun j a => (h' j a).trans (h j a)
theorem XSr.up {S S' : Nat → List Int32} (h : XSr S S') {k : Nat} (hk : hX k = true) (l : List Int32) : XSr S (up S' k l) := fun j hj => by
  rw [up_ne (fun e => by rw [e, hk] at hj; cases hj)]
  exact h j hj
theorem xor_nar (x y : Int32) : (x ^^^ y).toInt8.toInt32 = tb (u32 (x ^^^ y)) := toInt8_low _
set_option maxHeartbeats 8000000 in
theorem expandX_ok (g : GX) {msg : List Int32} {many : Nat} (d : DL kd A X R S O F (zer128 ++ msg) h) (ha : h a = some (Sg v tx)) (h7 : ∀ j, tx.getD j 0 < 128) (htx : tx.length ≤ 100) (hm : many = 72 ∨ many = 144) (hl : msg.length + 2000 < 2 ^ 28) :
    MT g MX5_expand ({ frames := 7, cells := 0, slots := 0, locals := 150 } : Room) [.ref (A 11), .int (nI many), .ref a] h (RV fun h' => ∃ S' F', XSr S S' ∧ XFr F F' ∧ S' 24 = xmd msg many (tagB tx) ∧ XW kd A X R S' O F' h') := by
  refine MT.of (by decide) (Nat.le_of_ble_eq_true rfl) ?_
  generalize hPost : (RV fun h' => ∃ S' F', XSr S S' ∧ XFr F F' ∧ S' 24 = xmd msg many (tagB tx) ∧ XW kd A X R S' O F' h') = Post
  have hT : (tagB tx).length = tx.length + 20 := tagB_len tx
  have hx0 : xb0 msg many (tagB tx) = sha384 (zer128 ++ msg ++ [tb (many / 256), tb many] ++ [tb 0] ++ tagB tx ++ [tb (tagB tx).length]) := rfl
  have hxd : xmd msg many (tagB tx) = (List.range many).map (uni (xb0 msg many (tagB tx)) (tagB tx)) := rfl
  have hbl : (xb0 msg many (tagB tx)).length = 48 := sha384_len _
  generalize hb0 : xb0 msg many (tagB tx) = b0 at *
  -- a block
  have loop3 : ∀ m i, i + m = (many + 47) / 48 → ∀ S' F' h', XW kd A X R S' O F' h' → XSr S S' → XFr F F' → S' 26 = b0 → S' 25 = xbi b0 (tagB tx) i → S' 24 = (List.range (48 * i)).map (uni b0 (tagB tx)) →
      XX g MX5_expand ({ frames := 7, cells := 0, slots := 0, locals := 150 } : Room) Post 0 0 72 [(4, .int (nI (i + 1))), (3, .int (nI (tx.length + 20))), (0, .ref (A 11)), (1, .int (nI many)), (2, .ref a)] [] h' := by
    intro m
    induction m with
    | zero =>
      intro i hi S' F' h' w' s' f' h26 h25 h24
      refine X_bipush (pc := 72) (x := 48) dX5_expand_72 (by decide) ?_
      refine X_iload (pc := 74) 0 dX5_expand_74 rfl ?_
      refine X_imul (pc := 76) dX5_expand_76 ?_
      refine X_bipush (pc := 77) (x := 48) dX5_expand_77 (by decide) ?_
      rw [show (48 : Int32) * nI (i + 1) = nI (48 * (i + 1)) from pk_mul 48 _]
      refine X_isub (pc := 79) dX5_expand_79 ?_
      rw [show nI (48 * (i + 1)) - 48 = nI (48 * i) by rw [show (48 : Int32) = nI 48 from rfl, pk_sub (by omega)]; congr 1]
      refine X_iload_n (pc := 80) 3 dX5_expand_80 rfl rfl ?_
      refine X_icmp_ge (pc := 81) 193 dX5_expand_81 (by decide) (fun _ => ?_) (fun c => absurd (nI_le (by omega) (by omega)) c)
      subst hPost
      refine X_return (pc := 193) dX5_expand_193 rfl (Nat.le_of_ble_eq_true rfl) (Nat.le_of_ble_eq_true rfl) ?_
      have w2 := w'.cutS (w'.k 24 (by decide)) many
      refine ⟨rfl, _, F', s'.up (k := 24) rfl _, f', ?_, w2⟩
      rw [up_same, h24, hxd, ← List.map_take, List.take_range, Nat.min_eq_left (by omega)]
    | succ m ih =>
      intro i hi S' F' h' w' s' f' h26 h25 h24
      have hlt : 48 * i < many := by omega
      have hib : 48 * i + 48 ≤ 144 := by omega
      have ha' := XW.txt d.1 w' ha
      -- the bytes put
      have loop4 : ∀ m j, j + m = 48 → ∀ h2, DL kd A X R S' O F' ((List.range j).map fun q => tb (u32 (b0.getD q 0 ^^^ (xbi b0 (tagB tx) i).getD q 0))) h2 →
          XX g MX5_expand ({ frames := 7, cells := 0, slots := 0, locals := 150 } : Room) Post 0 0 95 [(5, .int (nI j)), (4, .int (nI (i + 1))), (3, .int (nI (tx.length + 20))), (0, .ref (A 11)), (1, .int (nI many)), (2, .ref a)] [] h2 := by
        intro m
        induction m with
        | zero =>
          intro j hj h2 d2
          have e : j = 48 := by omega
          subst e
          have ha2 := XW.txt w' d2.1 ha'
          have hl2 : ((List.range 48).map fun q => tb (u32 (b0.getD q 0 ^^^ (xbi b0 (tagB tx) i).getD q 0))).length = 48 := by rw [List.length_map, List.length_range]
          refine X_iload (pc := 95) 0 dX5_expand_95 rfl ?_
          refine X_bipush (pc := 97) (x := 48) dX5_expand_97 (by decide) ?_
          refine X_cge (a := 48) (b := 48) (pc := 99) 131 dX5_expand_99 (by decide) (by omega) (by omega) (fun _ => ?_) (fun c => absurd c (by omega))
          refine X_aload_n (pc := 131) 3 dX5_expand_131 rfl rfl ?_
          refine X_getfield (pc := 132) dX5_expand_132 fg_X5_91_3 (XW.cv d2.1) (by first | rfl | assumption) ?_
          refine X_iload (pc := 135) 1 dX5_expand_135 rfl ?_
          refine X_ivr (pc := 137) _ dX5_expand_137 cv_X5_232_2 (XW.dL d2.1) rfl (xputL_ok g d2 _ (by rw [hl2]; decide)) nX2_put_2 (Nat.le_of_ble_eq_true rfl) (Nat.le_of_ble_eq_true rfl) (Nat.le_of_ble_eq_true rfl) (Nat.le_of_ble_eq_true rfl) (fun r3 h3 q3 => ?_)
          obtain ⟨rfl, d3⟩ := q3
          rw [tb_i] at d3
          have ha3 := XW.txt w' d3.1 ha'
          have hl3 : (((List.range 48).map fun q => tb (u32 (b0.getD q 0 ^^^ (xbi b0 (tagB tx) i).getD q 0))) ++ [tb (i + 1)]).length = 49 := by rw [List.length_append, hl2]; rfl
          refine X_pop (pc := 140) dX5_expand_140 rfl ?_
          refine X_aload_n (pc := 141) 3 dX5_expand_141 rfl rfl ?_
          refine X_aload_n (pc := 142) 5 dX5_expand_142 rfl rfl ?_
          refine X_iload_n (pc := 143) 2 dX5_expand_143 rfl rfl ?_
          refine X_ivv (pc := 144) _ dX5_expand_144 cv_X5_214_3 (XW.cv d3.1) rfl (tagX_ok g d3 ha3 h7 htx (by rw [hl3]; decide) _) nX5_tag (Nat.le_of_ble_eq_true rfl) (Nat.le_of_ble_eq_true rfl) (Nat.le_of_ble_eq_true rfl) (Nat.le_of_ble_eq_true rfl) (fun h4 d4 => ?_)
          have hl4 : (((List.range 48).map fun q => tb (u32 (b0.getD q 0 ^^^ (xbi b0 (tagB tx) i).getD q 0))) ++ [tb (i + 1)] ++ tagB tx ++ [tb (tx.length + 20)]).length = 70 + tx.length := by
            rw [List.length_append, List.length_append, hl3, hT]
            show 49 + (tx.length + 20) + 1 = _
            omega
          refine X_aload_n (pc := 147) 3 dX5_expand_147 rfl rfl ?_
          refine X_getfield (pc := 148) dX5_expand_148 fg_X5_91_3 (XW.cv d4.1) (by first | rfl | assumption) ?_
          refine X_ivr (pc := 151) _ dX5_expand_151 cv_X5_218_2 (XW.dL d4.1) rfl (endL_ok g d4 (by rw [hl4]; omega)) nX2_end (Nat.le_of_ble_eq_true rfl) (Nat.le_of_ble_eq_true rfl) (Nat.le_of_ble_eq_true rfl) (Nat.le_of_ble_eq_true rfl) (fun r5 h5 q5 => ?_)
          obtain ⟨rfl, F5, f5, w5⟩ := q5
          rw [← hT, show sha384 (((List.range 48).map fun q => tb (u32 (b0.getD q 0 ^^^ (xbi b0 (tagB tx) i).getD q 0))) ++ [tb (i + 1)] ++ tagB tx ++ [tb (tagB tx).length]) = xbi b0 (tagB tx) (i + 1) from rfl] at w5
          have hxl := xbi_len b0 (tagB tx) (i + 1)
          obtain ⟨f8, c8, p8, -⟩ := w5.s 8 (w5.k 8 (by decide))
          obtain ⟨f25, c25, p25, -⟩ := w5.s 25 (w5.k 25 (by decide))
          refine X_iconst (pc := 154) (x := 0) dX5_expand_154 (by decide) ?_
          refine X_aload_n (pc := 155) 3 dX5_expand_155 rfl rfl ?_
          refine X_getfield (pc := 156) dX5_expand_156 fg_X5_85_3 (XW.cv w5) (by first | rfl | assumption) ?_
          refine X_iconst (pc := 159) (x := 0) dX5_expand_159 (by decide) ?_
          refine X_bipush (pc := 160) (x := 48) dX5_expand_160 (by decide) ?_
          refine X_copyI (pc := 162) (0) (0) (48) dX5_expand_162 q980 (Or.inr rfl) c8 c25 rfl rfl rfl (by omega) (by omega) ⟨by omega, by omega⟩ (Nat.le_of_ble_eq_true rfl) (Nat.le_of_ble_eq_true rfl) ?_
          have w6 := w5.cpy (ks := 8) (ns := 48) (sN := 0) (dN := 0) (n := 48) (w5.k 25 (by decide)) p8 p25 (Nat.zero_le _) (by rw [up_same, hxl]; decide) (by decide)
          rw [up_same, List.take_zero, List.nil_append, sub_all hxl] at w6
          generalize hset h5 (A 25) (Ai false 2 48 (va_cpy f8 f25 0 0 48)) = h6 at w6
          obtain ⟨g25, k25, q25, -⟩ := w6.s 25 (w6.k 25 (by decide))
          obtain ⟨g24, k24, q24, -⟩ := w6.s 24 (w6.k 24 (by decide))
          refine X_aload_n (pc := 165) 3 dX5_expand_165 rfl rfl ?_
          refine X_getfield (pc := 166) dX5_expand_166 fg_X5_85_3 (XW.cv w6) (by first | rfl | assumption) ?_
          refine X_iconst (pc := 169) (x := 0) dX5_expand_169 (by decide) ?_
          refine X_aload_n (pc := 170) 3 dX5_expand_170 rfl rfl ?_
          refine X_getfield (pc := 171) dX5_expand_171 fg_X5_81_3 (XW.cv w6) (by first | rfl | assumption) ?_
          refine X_bipush (pc := 174) (x := 48) dX5_expand_174 (by decide) ?_
          refine X_iload (pc := 176) 1 dX5_expand_176 rfl ?_
          refine X_imul (pc := 178) dX5_expand_178 ?_
          refine X_bipush (pc := 179) (x := 48) dX5_expand_179 (by decide) ?_
          refine X_isub (pc := 181) dX5_expand_181 ?_
          rw [show (48 : Int32) * nI (i + 1) - 48 = nI (48 * i) by rw [show (48 : Int32) * nI (i + 1) = nI (48 * (i + 1)) from pk_mul 48 _, show (48 : Int32) = nI 48 from rfl, pk_sub (by omega)]; congr 1]
          refine X_bipush (pc := 182) (x := 48) dX5_expand_182 (by decide) ?_
          refine X_copyI (pc := 184) (0) (48 * i) (48) dX5_expand_184 q980 (Or.inr rfl) k25 k24 rfl rfl rfl (by omega) (by omega) ⟨by omega, by omega⟩ (Nat.le_of_ble_eq_true rfl) (Nat.le_of_ble_eq_true rfl) ?_
          have hs24 : up (up S' 8 (xbi b0 (tagB tx) (i + 1))) 25 (xbi b0 (tagB tx) (i + 1)) 24 = (List.range (48 * i)).map (uni b0 (tagB tx)) := by rw [up_ne (by decide), up_ne (by decide)]; exact h24
          have w7 := w6.cpy (ks := 25) (ns := 48) (sN := 0) (dN := 48 * i) (n := 48) (w6.k 24 (by decide)) q25 q24 (by rw [hs24, List.length_map, List.length_range]; exact Nat.le_refl _) (by rw [up_same, hxl]; decide) hib
          rw [hs24, up_same, sub_all hxl, show List.take (48 * i) ((List.range (48 * i)).map (uni b0 (tagB tx))) = (List.range (48 * i)).map (uni b0 (tagB tx)) from List.take_of_length_le (by rw [List.length_map, List.length_range]; exact Nat.le_refl _)] at w7
          generalize hset h6 (A 24) (Ai false 2 144 (va_cpy g25 g24 0 (48 * i) 48)) = h7' at w7
          have el : (List.range (48 * i)).map (uni b0 (tagB tx)) ++ xbi b0 (tagB tx) (i + 1) = (List.range (48 * (i + 1))).map (uni b0 (tagB tx)) := by
            rw [show 48 * (i + 1) = 48 * i + 48 by omega, List.range_add, List.map_append, List.map_map]
            congr 1
            have e2 : xbi b0 (tagB tx) (i + 1) = (List.range 48).map fun j => (xbi b0 (tagB tx) (i + 1)).getD j 0 := by rw [map_getD hxl]
            rw [e2]
            apply List.map_congr_left
            intro j hj
            exact (uni_at b0 (tagB tx) (List.mem_range.mp hj)).symm
          rw [el] at w7
          refine X_iinc (pc := 187) (L' := [(4, .int (_ + 1)), (5, .int _), (3, .int _), (0, .ref _), (1, .int _), (2, .ref _)]) 1 dX5_expand_187 rfl rfl (Nat.le_of_ble_eq_true rfl) rfl ?_
          refine X_goto (pc := 190) 72 dX5_expand_190 (by decide) ?_
          rw [show nI (i + 1) + 1 = nI (i + 1 + 1) from nI_add _ 1]
          refine XX.pick (L' := [(4, .int _), (3, .int _), (0, .ref _), (1, .int _), (2, .ref _)]) [0, 2, 3, 4, 5] rfl ?_
          refine ih (i + 1) (by omega) _ F5 h7' w7 (((s'.up (k := 8) rfl _).up (k := 25) rfl _).up (k := 24) rfl _) (f'.trans f5) ?_ ?_ (up_same _ _ _)
          · rw [up_ne (by decide), up_ne (by decide), up_ne (by decide)]; exact h26
          · rw [up_ne (by decide), up_same]
        | succ m ih2 =>
          intro j hj h2 d2
          obtain ⟨f26, c26, p26, -⟩ := d2.1.s 26 (d2.1.k 26 (by decide))
          obtain ⟨f25, c25, p25, -⟩ := d2.1.s 25 (d2.1.k 25 (by decide))
          rw [h26] at p26
          rw [h25] at p25
          have cj : (nI j).toNatClampNeg = j := nI_clamp (by omega)
          have bj : vp_in (nI j) 48 := vp_in_nI (by omega) (by omega)
          refine X_iload (pc := 95) 0 dX5_expand_95 rfl ?_
          refine X_bipush (pc := 97) (x := 48) dX5_expand_97 (by decide) ?_
          refine X_cge (b := 48) (pc := 99) 131 dX5_expand_99 (by decide) (by omega) (by omega) (fun c => absurd c (by omega)) (fun _ => ?_)
          refine X_aload_n (pc := 102) 3 dX5_expand_102 rfl rfl ?_
          refine X_getfield (pc := 103) dX5_expand_103 fg_X5_91_3 (XW.cv d2.1) (by first | rfl | assumption) ?_
          refine X_aload_n (pc := 106) 3 dX5_expand_106 rfl rfl ?_
          refine X_getfield (pc := 107) dX5_expand_107 fg_X5_88_3 (XW.cv d2.1) (by first | rfl | assumption) ?_
          refine X_iload (pc := 110) 0 dX5_expand_110 rfl ?_
          refine X_baload (pc := 112) dX5_expand_112 c26 bj ?_
          refine X_aload_n (pc := 113) 3 dX5_expand_113 rfl rfl ?_
          refine X_getfield (pc := 114) dX5_expand_114 fg_X5_85_3 (XW.cv d2.1) (by first | rfl | assumption) ?_
          refine X_iload (pc := 117) 0 dX5_expand_117 rfl ?_
          refine X_baload (pc := 119) dX5_expand_119 c25 bj ?_
          refine X_ixor (pc := 120) dX5_expand_120 ?_
          rw [cj, p26 j (by omega), p25 j (by rw [xbi_len]; omega)]
          refine X_ivr (pc := 121) _ dX5_expand_121 cv_X5_232_2 (XW.dL d2.1) rfl (xputL_ok g d2 _ (by rw [List.length_map, List.length_range]; omega)) nX2_put_2 (Nat.le_of_ble_eq_true rfl) (Nat.le_of_ble_eq_true rfl) (Nat.le_of_ble_eq_true rfl) (Nat.le_of_ble_eq_true rfl) (fun r3 h3 q3 => ?_)
          obtain ⟨rfl, d3⟩ := q3
          rw [xor_nar, ← List.map_singleton (f := fun q => tb (u32 (b0.getD q 0 ^^^ (xbi b0 (tagB tx) i).getD q 0))), ← List.map_append, ← List.range_succ] at d3
          refine X_pop (pc := 124) dX5_expand_124 rfl ?_
          refine X_iinc (pc := 125) (L' := [(5, .int (_ + 1)), (4, .int _), (3, .int _), (0, .ref _), (1, .int _), (2, .ref _)]) 0 dX5_expand_125 rfl rfl (Nat.le_of_ble_eq_true rfl) rfl ?_
          refine X_goto (pc := 128) 95 dX5_expand_128 (by decide) ?_
          rw [show nI j + 1 = nI (j + 1) from nI_add j 1]
          exact ih2 (j + 1) (by omega) h3 d3
      refine X_bipush (pc := 72) (x := 48) dX5_expand_72 (by decide) ?_
      refine X_iload (pc := 74) 0 dX5_expand_74 rfl ?_
      refine X_imul (pc := 76) dX5_expand_76 ?_
      refine X_bipush (pc := 77) (x := 48) dX5_expand_77 (by decide) ?_
      rw [show (48 : Int32) * nI (i + 1) = nI (48 * (i + 1)) from pk_mul 48 _]
      refine X_isub (pc := 79) dX5_expand_79 ?_
      rw [show nI (48 * (i + 1)) - 48 = nI (48 * i) by rw [show (48 : Int32) = nI 48 from rfl, pk_sub (by omega)]; congr 1]
      refine X_iload_n (pc := 80) 3 dX5_expand_80 rfl rfl ?_
      refine X_icmp_ge (pc := 81) 193 dX5_expand_81 (by decide) (fun c => absurd c (nI_ge (by omega) (by omega))) (fun _ => ?_)
      refine X_aload_n (pc := 84) 2 dX5_expand_84 rfl rfl ?_
      refine X_getfield (pc := 85) dX5_expand_85 fg_X5_91_3 (XW.cv w') (by first | rfl | assumption) ?_
      refine X_ivr (pc := 88) _ dX5_expand_88 cv_X5_228_2 (XW.dL w') rfl (xbeginL_ok g w') nX2_begin (Nat.le_of_ble_eq_true rfl) (Nat.le_of_ble_eq_true rfl) (Nat.le_of_ble_eq_true rfl) (Nat.le_of_ble_eq_true rfl) (fun r2 h2 q2 => ?_)
      obtain ⟨rfl, d2⟩ := q2
      refine X_pop (pc := 91) dX5_expand_91 rfl ?_
      refine X_iconst (pc := 92) (x := 0) dX5_expand_92 (by decide) ?_
      refine X_istore (pc := 93) (L' := [(5, .int _), (4, .int _), (3, .int _), (0, .ref _), (1, .int _), (2, .ref _)]) dX5_expand_93 (Nat.le_of_ble_eq_true rfl) rfl ?_
      exact loop4 48 0 (by omega) h2 d2
  -- zeros
  have loop2 : ∀ m i, i + m = 48 → ∀ S' F' h', XW kd A X R S' O F' h' → XSr S S' → XFr F F' → S' 26 = b0 → S' 25 = List.replicate i 0 →
      XX g MX5_expand ({ frames := 7, cells := 0, slots := 0, locals := 150 } : Room) Post 0 0 48 [(4, .int (nI i)), (3, .int (nI (tx.length + 20))), (0, .ref (A 11)), (1, .int (nI many)), (2, .ref a)] [] h' := by
    intro m
    induction m with
    | zero =>
      intro i hi S' F' h' w' s' f' h26 h25
      have e : i = 48 := by omega
      subst e
      refine X_iload (pc := 48) 0 dX5_expand_48 rfl ?_
      refine X_bipush (pc := 50) (x := 48) dX5_expand_50 (by decide) ?_
      refine X_cge (a := 48) (b := 48) (pc := 52) 69 dX5_expand_52 (by decide) (by omega) (by omega) (fun _ => ?_) (fun c => absurd c (by omega))
      refine X_iconst (pc := 69) (x := 1) dX5_expand_69 (by decide) ?_
      refine X_istore (pc := 70) (L' := [(4, .int _), (3, .int _), (0, .ref _), (1, .int _), (2, .ref _)]) dX5_expand_70 (Nat.le_of_ble_eq_true rfl) rfl ?_
      have w2 := w'.nilS (w'.k 24 (by decide))
      exact loop3 ((many + 47) / 48) 0 (by omega) _ F' h' w2 (s'.up (k := 24) rfl _) f' (by rw [up_ne (by decide)]; exact h26) (by rw [up_ne (by decide)]; exact h25) (up_same _ _ _)
    | succ m ih =>
      intro i hi S' F' h' w' s' f' h26 h25
      obtain ⟨f25, c25, p25, -⟩ := w'.s 25 (w'.k 25 (by decide))
      have ci : (nI i).toNatClampNeg = i := nI_clamp (by omega)
      have bi : vp_in (nI i) 48 := vp_in_nI (by omega) (by omega)
      refine X_iload (pc := 48) 0 dX5_expand_48 rfl ?_
      refine X_bipush (pc := 50) (x := 48) dX5_expand_50 (by decide) ?_
      refine X_cge (b := 48) (pc := 52) 69 dX5_expand_52 (by decide) (by omega) (by omega) (fun c => absurd c (by omega)) (fun _ => ?_)
      refine X_aload_n (pc := 55) 2 dX5_expand_55 rfl rfl ?_
      refine X_getfield (pc := 56) dX5_expand_56 fg_X5_85_3 (XW.cv w') (by first | rfl | assumption) ?_
      refine X_iload (pc := 59) 0 dX5_expand_59 rfl ?_
      refine X_iconst (pc := 61) (x := 0) dX5_expand_61 (by decide) ?_
      refine X_bastore (pc := 62) dX5_expand_62 c25 bi ?_
      rw [ci, show (0 : Int32).toInt8.toInt32 = 0 from by decide]
      rw [h25] at p25
      have w2 := w'.setS 25 (w'.k 25 (by decide)) (PL_app (x := 0) (i := i) p25 (by rw [List.length_replicate])) (by rw [List.length_append, List.length_replicate]; show i + 1 ≤ 48; omega)
      refine X_iinc (pc := 63) (L' := [(4, .int (_ + 1)), (3, .int _), (0, .ref _), (1, .int _), (2, .ref _)]) 0 dX5_expand_63 rfl rfl (Nat.le_of_ble_eq_true rfl) rfl ?_
      refine X_goto (pc := 66) 48 dX5_expand_66 (by decide) ?_
      rw [show nI i + 1 = nI (i + 1) from nI_add i 1]
      exact ih (i + 1) (by omega) _ F' _ w2 (s'.up (k := 25) rfl _) f' (by rw [up_ne (by decide)]; exact h26) (by rw [up_same, List.replicate_succ'])
  have hzl : (zer128 ++ msg).length = 128 + msg.length := by rw [List.length_append]; unfold zer128; rw [List.length_replicate]
  refine X_aload_n (pc := 0) 2 dX5_expand_0 rfl rfl ?_
  refine X_iti (pc := 1) _ dX5_expand_1 cvs_X5_205 ha rfl (slen_ok g ha (by omega)) nJ0_length (Nat.le_of_ble_eq_true rfl) (Nat.le_of_ble_eq_true rfl) (Nat.le_of_ble_eq_true rfl) (Nat.le_of_ble_eq_true rfl) (fun r1 h1 q1 => ?_)
  obtain ⟨rfl, rfl⟩ := q1
  refine X_bipush (pc := 4) (x := 20) dX5_expand_4 (by decide) ?_
  refine X_iadd (pc := 6) dX5_expand_6 ?_
  rw [show nI tx.length + 20 = nI (tx.length + 20) from nI_add _ 20]
  refine X_istore_n (pc := 7) (L' := [(3, .int _), (0, .ref _), (1, .int _), (2, .ref _)]) dX5_expand_7 rfl (Nat.le_of_ble_eq_true rfl) rfl ?_
  refine X_aload_n (pc := 8) 1 dX5_expand_8 rfl rfl ?_
  refine X_getfield (pc := 9) dX5_expand_9 fg_X5_91_3 (XW.cv d.1) (by first | rfl | assumption) ?_
  refine X_iload_n (pc := 12) 2 dX5_expand_12 rfl rfl ?_
  refine X_ivr (pc := 13) _ dX5_expand_13 cv_X5_211_2 (XW.dL d.1) rfl (xtwoL_ok g d (n := many) (by omega) (by rw [hzl]; omega)) nX2_two (Nat.le_of_ble_eq_true rfl) (Nat.le_of_ble_eq_true rfl) (Nat.le_of_ble_eq_true rfl) (Nat.le_of_ble_eq_true rfl) (fun r2 h2 q2 => ?_)
  obtain ⟨rfl, d2⟩ := q2
  refine X_iconst (pc := 16) (x := 0) dX5_expand_16 (by decide) ?_
  have hl2 : (zer128 ++ msg ++ [tb (many / 256), tb many]).length = 130 + msg.length := by rw [List.length_append, hzl]; show 128 + msg.length + 2 = _; omega
  refine X_ivr (pc := 17) _ dX5_expand_17 cv_X5_199_2 (XW.dL d2.1) rfl (xputL_ok g d2 0 (by rw [hl2]; omega)) nX2_put_2 (Nat.le_of_ble_eq_true rfl) (Nat.le_of_ble_eq_true rfl) (Nat.le_of_ble_eq_true rfl) (Nat.le_of_ble_eq_true rfl) (fun r3 h3 q3 => ?_)
  obtain ⟨rfl, d3⟩ := q3
  rw [show (0 : Int32).toInt8.toInt32 = tb 0 from by decide] at d3
  have hl3 : (zer128 ++ msg ++ [tb (many / 256), tb many] ++ [tb 0]).length = 131 + msg.length := by rw [List.length_append, hl2]; show 130 + msg.length + 1 = _; omega
  have ha3 := XW.txt d.1 d3.1 ha
  refine X_pop (pc := 20) dX5_expand_20 rfl ?_
  refine X_aload_n (pc := 21) 1 dX5_expand_21 rfl rfl ?_
  refine X_aload_n (pc := 22) 3 dX5_expand_22 rfl rfl ?_
  refine X_iload_n (pc := 23) 0 dX5_expand_23 rfl rfl ?_
  refine X_ivv (pc := 24) _ dX5_expand_24 cv_X5_214_3 (XW.cv d3.1) rfl (tagX_ok g d3 ha3 h7 htx (by rw [hl3]; omega) _) nX5_tag (Nat.le_of_ble_eq_true rfl) (Nat.le_of_ble_eq_true rfl) (Nat.le_of_ble_eq_true rfl) (Nat.le_of_ble_eq_true rfl) (fun h4 d4 => ?_)
  have hl4 : (zer128 ++ msg ++ [tb (many / 256), tb many] ++ [tb 0] ++ tagB tx ++ [tb (tx.length + 20)]).length = 152 + msg.length + tx.length := by
    rw [List.length_append, List.length_append, hl3, hT]
    show 131 + msg.length + (tx.length + 20) + 1 = _
    omega
  refine X_aload_n (pc := 27) 1 dX5_expand_27 rfl rfl ?_
  refine X_getfield (pc := 28) dX5_expand_28 fg_X5_91_3 (XW.cv d4.1) (by first | rfl | assumption) ?_
  refine X_ivr (pc := 31) _ dX5_expand_31 cv_X5_218_2 (XW.dL d4.1) rfl (endL_ok g d4 (by rw [hl4]; omega)) nX2_end (Nat.le_of_ble_eq_true rfl) (Nat.le_of_ble_eq_true rfl) (Nat.le_of_ble_eq_true rfl) (Nat.le_of_ble_eq_true rfl) (fun r5 h5 q5 => ?_)
  obtain ⟨rfl, F5, f5, w5⟩ := q5
  rw [← hT, ← hx0] at w5
  obtain ⟨f8, c8, p8, -⟩ := w5.s 8 (w5.k 8 (by decide))
  obtain ⟨f26, c26, p26, -⟩ := w5.s 26 (w5.k 26 (by decide))
  refine X_iconst (pc := 34) (x := 0) dX5_expand_34 (by decide) ?_
  refine X_aload_n (pc := 35) 1 dX5_expand_35 rfl rfl ?_
  refine X_getfield (pc := 36) dX5_expand_36 fg_X5_88_3 (XW.cv w5) (by first | rfl | assumption) ?_
  refine X_iconst (pc := 39) (x := 0) dX5_expand_39 (by decide) ?_
  refine X_bipush (pc := 40) (x := 48) dX5_expand_40 (by decide) ?_
  refine X_copyI (pc := 42) (0) (0) (48) dX5_expand_42 q980 (Or.inr rfl) c8 c26 rfl rfl rfl (by omega) (by omega) ⟨by omega, by omega⟩ (Nat.le_of_ble_eq_true rfl) (Nat.le_of_ble_eq_true rfl) ?_
  have w6 := w5.cpy (ks := 8) (ns := 48) (sN := 0) (dN := 0) (n := 48) (w5.k 26 (by decide)) p8 p26 (Nat.zero_le _) (by rw [up_same, hbl]; decide) (by decide)
  rw [up_same, List.take_zero, List.nil_append, sub_all hbl] at w6
  generalize hset h5 (A 26) (Ai false 2 48 (va_cpy f8 f26 0 0 48)) = h6 at w6
  have w7 := w6.nilS (w6.k 25 (by decide))
  refine X_iconst (pc := 45) (x := 0) dX5_expand_45 (by decide) ?_
  refine X_istore (pc := 46) (L' := [(4, .int _), (3, .int _), (0, .ref _), (1, .int _), (2, .ref _)]) dX5_expand_46 (Nat.le_of_ble_eq_true rfl) rfl ?_
  refine loop2 48 0 (by omega) _ F5 h6 w7 ?_ f5 (by rw [up_ne (by decide), up_same]) (up_same _ _ _)
  have s0 : XSr S S := fun _ _ => rfl
  exact ((s0.up (k := 8) rfl _).up (k := 26) rfl _).up (k := 25) rfl _
end XX21
