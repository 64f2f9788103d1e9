set_option maxRecDepth 100000
/-! THE REFERENCE'S WORLD: keys below 96 by field; 96 itself; 200.. 300.. 400.. the spots' x, y and themselves (0 g, 1 walk, 2 mapped, 3 m, 4 z, 5 pointT, 6 pointU, 7 part, 8 point, 9.. asked, 17.. given, 25.. publics); 500.. the moduli (0 p, 1 q, 2.. moduli), their m 510.., high 520.., n 540.., shift 550..; 530.. secrets; 600.. blinds -/
def kdT : List KD := [(0, 0, 0), (4, 0, 130), (5, 0, 16), (4, 0, 64), (4, 0, 64), (4, 0, 64), (4, 0, 64), (4, 0, 64), (4, 0, 64), (0, 0, 0), (0, 0, 0), (0, 0, 0), (0, 0, 0), (1, 0, 12), (1, 0, 12), (1, 0, 12), (1, 0, 12), (1, 0, 12), (1, 0, 12), (1, 0, 12), (1, 0, 12), (1, 0, 12), (1, 0, 12), (1, 0, 12), (1, 0, 12), (6, 2, 2600), (0, 0, 0), (6, 2, 48), (4, 0, 8), (4, 0, 64), (5, 0, 8), (5, 0, 80), (6, 2, 700), (0, 0, 0), (6, 2, 48), (0, 0, 0), (6, 2, 48), (6, 2, 48), (6, 2, 144), (0, 0, 0), (1, 0, 12), (1, 0, 12), (1, 0, 12), (1, 0, 12), (1, 0, 12), (1, 0, 12), (1, 0, 12), (1, 0, 12), (7, 0, 0), (7, 0, 0), (0, 0, 0), (0, 0, 0), (0, 0, 0), (0, 0, 0), (0, 0, 0), (6, 2, 48), (6, 2, 49), (2, 0, 12), (2, 0, 12), (2, 0, 12), (2, 0, 12), (3, 0, 6), (3, 3, 6), (6, 2, 192), (7, 0, 0), (7, 0, 0), (7, 0, 0), (3, 0, 6), (3, 0, 6), (3, 0, 6), (0, 0, 0), (3, 0, 60), (3, 3, 60), (6, 2, 5880), (7, 0, 0), (0, 0, 0), (6, 2, 4096), (0, 0, 0), (0, 0, 0), (0, 0, 0), (0, 0, 0), (6, 2, 1208), (0, 0, 0), (6, 2, 2900), (0, 0, 0), (6, 2, 260), (6, 2, 260), (6, 2, 48), (3, 0, 64), (3, 0, 64), (3, 0, 64), (4, 0, 1), (4, 0, 5), (0, 0, 0), (2, 0, 12), (6, 2, 384), (7, 0, 0)]
def kdM (k : Nat) : KD :=
  if k < 97 then kdT.getD k (0, 0, 0)
  else if k < 200 then (0, 0, 0)
  else if k < 209 then (1, 0, 12)
  else if k < 225 then (2, 0, 12)
  else if k < 231 then (1, 0, 12)
  else if k < 300 then (0, 0, 0)
  else if k < 331 then (1, 0, 12)
  else if k < 400 then (0, 0, 0)
  else if k < 431 then (7, 0, 0)
  else if k < 500 then (0, 0, 0)
  else if k < 508 then (7, 0, 0)
  else if k < 510 then (0, 0, 0)
  else if k < 512 then (7, 0, 0)
  else if k < 518 then (3, 0, 64)
  else if k < 520 then (0, 0, 0)
  else if k < 522 then (7, 0, 0)
  else if k < 528 then (3, 0, 64)
  else if k < 530 then (0, 0, 0)
  else if k < 536 then (3, 0, 64)
  else if k < 600 then (0, 0, 0)
  else if k < 660 then (3, 0, 64)
  else (0, 0, 0)
def mFl (A : Nat → Nat) (F : Nat → Int32) : List Value := [.int (F 0), .ref (A 1), .ref (A 2), .ref (A 3), .ref (A 4), .ref (A 5), .ref (A 6), .ref (A 7), .ref (A 8), .ref (A 500), .ref (A 501), .ref (A 400), .ref (A 401), .ref (A 13), .ref (A 14), .ref (A 15), .ref (A 16), .ref (A 17), .ref (A 18), .ref (A 19), .ref (A 20), .ref (A 21), .ref (A 22), .ref (A 23), .ref (A 24), .ref (A 25), .int (F 26), .ref (A 27), .ref (A 28), .ref (A 29), .ref (A 30), .ref (A 31), .ref (A 32), .int (F 33), .ref (A 34), .int (F 35), .ref (A 36), .ref (A 37), .ref (A 38), .ref (A 402), .ref (A 40), .ref (A 41), .ref (A 42), .ref (A 43), .ref (A 44), .ref (A 45), .ref (A 46), .ref (A 47), .ref (A 48), .ref (A 49), .ref (A 403), .ref (A 404), .ref (A 405), .ref (A 406), .ref (A 407), .ref (A 55), .ref (A 56), .ref (A 57), .ref (A 58), .ref (A 59), .ref (A 60), .ref (A 61), .ref (A 62), .ref (A 63), .ref (A 64), .ref (A 65), .ref (A 66), .ref (A 67), .ref (A 68), .ref (A 69), .int (F 70), .ref (A 71), .ref (A 72), .ref (A 73), .ref (A 74), .int (F 75), .ref (A 76), .int (F 77), .int (F 78), .int (F 79), .int (F 80), .ref (A 81), .int (F 82), .ref (A 83), .int (F 84), .ref (A 85), .ref (A 86), .ref (A 87), .ref (A 88), .ref (A 89), .ref (A 90), .ref (A 91), .ref (A 92), .ref (A 408), .ref (A 94), .ref (A 95)]
def mO1 (A : Nat → Nat) (k : Nat) : AC :=
  if k = 48 then Ar 6 8 (fun j => some (A (409 + j)))
  else if k = 49 then Ar 6 8 (fun j => some (A (417 + j)))
  else if k = 65 then Ar 6 6 (fun j => some (A (425 + j)))
  else if k = 66 then Ar 7 6 (fun j => some (A (502 + j)))
  else if k = 64 then Ar 8 6 (fun j => some (A (530 + j)))
  else Ar 8 60 (fun j => some (A (600 + j)))
def mO2 (k : Nat) : AC := if k = 510 then nm 64 pP else if k = 511 then nm 64 qP else if k = 520 then nm 64 pP else nm 64 qP
def mO (A : Nat → Nat) (F : Nat → Int32) (k : Nat) : AC :=
  if k = 96 then Ob 11 (mFl A F)
  else if k < 400 then mO1 A k
  else if k < 431 then Ob 13 [.ref (A (k - 200)), .ref (A (k - 100)), .int (F k)]
  else if k < 502 then Ob 12 [.ref (A (k + 10)), .ref (A (k + 20)), .int 12, .int 0]
  else if k < 508 then Ob 12 [.ref (A (k + 10)), .ref (A (k + 20)), .int (F (k + 40)), .int (F (k + 50))]
  else mO2 k
theorem mO_cg {A : Nat → Nat} {F F' : Nat → Int32} {k : Nat} (hk : k ≠ 96) (h : 400 ≤ k → k < 431 → F k = F' k) (h2 : 502 ≤ k → k < 508 → F (k + 40) = F' (k + 40) ∧ F (k + 50) = F' (k + 50)) : mO A F k = mO A F' k := by
  unfold mO
  rw [if_neg hk, if_neg hk]
  by_cases c1 : k < 400
  · rw [if_pos c1, if_pos c1]
  · rw [if_neg c1, if_neg c1]
    by_cases c2 : k < 431
    · rw [if_pos c2, if_pos c2, h (by omega) c2]
    · rw [if_neg c2, if_neg c2]
      by_cases c3 : k < 502
      · rw [if_pos c3, if_pos c3]
      · rw [if_neg c3, if_neg c3]
        by_cases c4 : k < 508
        · obtain ⟨e1, e2⟩ := h2 (by omega) c4
          rw [if_pos c4, if_pos c4, e1, e2]
        · rw [if_neg c4, if_neg c4]
def MW (A : Nat → Nat) (X : AH) (R : Nat → Nat) (I : Nat → Nat → Int32) (S : Nat → List Int32) (F : Nat → Int32) (h : AH) : Prop := WD kdM A X R I S (mO A F) h
section MWs
variable {A : Nat → Nat} {X : AH} {R : Nat → Nat} {I : Nat → Nat → Int32} {S : Nat → List Int32} {F : Nat → Int32} {h : AH}
theorem mf_0 : (mFl A F)[0]? = some (.int (F 0)) := rfl
theorem mf_1 : (mFl A F)[1]? = some (.ref (A 1)) := rfl
theorem mf_2 : (mFl A F)[2]? = some (.ref (A 2)) := rfl
theorem mf_3 : (mFl A F)[3]? = some (.ref (A 3)) := rfl
theorem mf_4 : (mFl A F)[4]? = some (.ref (A 4)) := rfl
theorem mf_5 : (mFl A F)[5]? = some (.ref (A 5)) := rfl
theorem mf_6 : (mFl A F)[6]? = some (.ref (A 6)) := rfl
theorem mf_7 : (mFl A F)[7]? = some (.ref (A 7)) := rfl
theorem mf_8 : (mFl A F)[8]? = some (.ref (A 8)) := rfl
theorem mf_9 : (mFl A F)[9]? = some (.ref (A 500)) := rfl
theorem mf_10 : (mFl A F)[10]? = some (.ref (A 501)) := rfl
theorem mf_11 : (mFl A F)[11]? = some (.ref (A 400)) := rfl
theorem mf_12 : (mFl A F)[12]? = some (.ref (A 401)) := rfl
theorem mf_13 : (mFl A F)[13]? = some (.ref (A 13)) := rfl
theorem mf_14 : (mFl A F)[14]? = some (.ref (A 14)) := rfl
theorem mf_15 : (mFl A F)[15]? = some (.ref (A 15)) := rfl
theorem mf_16 : (mFl A F)[16]? = some (.ref (A 16)) := rfl
theorem mf_17 : (mFl A F)[17]? = some (.ref (A 17)) := rfl
theorem mf_18 : (mFl A F)[18]? = some (.ref (A 18)) := rfl
theorem mf_19 : (mFl A F)[19]? = some (.ref (A 19)) := rfl
theorem mf_20 : (mFl A F)[20]? = some (.ref (A 20)) := rfl
theorem mf_21 : (mFl A F)[21]? = some (.ref (A 21)) := rfl
theorem mf_22 : (mFl A F)[22]? = some (.ref (A 22)) := rfl
theorem mf_23 : (mFl A F)[23]? = some (.ref (A 23)) := rfl
theorem mf_24 : (mFl A F)[24]? = some (.ref (A 24)) := rfl
theorem mf_25 : (mFl A F)[25]? = some (.ref (A 25)) := rfl
theorem mf_26 : (mFl A F)[26]? = some (.int (F 26)) := rfl
theorem mf_27 : (mFl A F)[27]? = some (.ref (A 27)) := rfl
theorem mf_28 : (mFl A F)[28]? = some (.ref (A 28)) := rfl
theorem mf_29 : (mFl A F)[29]? = some (.ref (A 29)) := rfl
theorem mf_30 : (mFl A F)[30]? = some (.ref (A 30)) := rfl
theorem mf_31 : (mFl A F)[31]? = some (.ref (A 31)) := rfl
theorem mf_32 : (mFl A F)[32]? = some (.ref (A 32)) := rfl
theorem mf_33 : (mFl A F)[33]? = some (.int (F 33)) := rfl
theorem mf_34 : (mFl A F)[34]? = some (.ref (A 34)) := rfl
theorem mf_35 : (mFl A F)[35]? = some (.int (F 35)) := rfl
theorem mf_36 : (mFl A F)[36]? = some (.ref (A 36)) := rfl
theorem mf_37 : (mFl A F)[37]? = some (.ref (A 37)) := rfl
theorem mf_38 : (mFl A F)[38]? = some (.ref (A 38)) := rfl
theorem mf_39 : (mFl A F)[39]? = some (.ref (A 402)) := rfl
theorem mf_40 : (mFl A F)[40]? = some (.ref (A 40)) := rfl
theorem mf_41 : (mFl A F)[41]? = some (.ref (A 41)) := rfl
theorem mf_42 : (mFl A F)[42]? = some (.ref (A 42)) := rfl
theorem mf_43 : (mFl A F)[43]? = some (.ref (A 43)) := rfl
theorem mf_44 : (mFl A F)[44]? = some (.ref (A 44)) := rfl
theorem mf_45 : (mFl A F)[45]? = some (.ref (A 45)) := rfl
theorem mf_46 : (mFl A F)[46]? = some (.ref (A 46)) := rfl
theorem mf_47 : (mFl A F)[47]? = some (.ref (A 47)) := rfl
theorem mf_48 : (mFl A F)[48]? = some (.ref (A 48)) := rfl
theorem mf_49 : (mFl A F)[49]? = some (.ref (A 49)) := rfl
theorem mf_50 : (mFl A F)[50]? = some (.ref (A 403)) := rfl
theorem mf_51 : (mFl A F)[51]? = some (.ref (A 404)) := rfl
theorem mf_52 : (mFl A F)[52]? = some (.ref (A 405)) := rfl
theorem mf_53 : (mFl A F)[53]? = some (.ref (A 406)) := rfl
theorem mf_54 : (mFl A F)[54]? = some (.ref (A 407)) := rfl
theorem mf_55 : (mFl A F)[55]? = some (.ref (A 55)) := rfl
theorem mf_56 : (mFl A F)[56]? = some (.ref (A 56)) := rfl
theorem mf_57 : (mFl A F)[57]? = some (.ref (A 57)) := rfl
theorem mf_58 : (mFl A F)[58]? = some (.ref (A 58)) := rfl
theorem mf_59 : (mFl A F)[59]? = some (.ref (A 59)) := rfl
theorem mf_60 : (mFl A F)[60]? = some (.ref (A 60)) := rfl
theorem mf_61 : (mFl A F)[61]? = some (.ref (A 61)) := rfl
theorem mf_62 : (mFl A F)[62]? = some (.ref (A 62)) := rfl
theorem mf_63 : (mFl A F)[63]? = some (.ref (A 63)) := rfl
theorem mf_64 : (mFl A F)[64]? = some (.ref (A 64)) := rfl
theorem mf_65 : (mFl A F)[65]? = some (.ref (A 65)) := rfl
theorem mf_66 : (mFl A F)[66]? = some (.ref (A 66)) := rfl
theorem mf_67 : (mFl A F)[67]? = some (.ref (A 67)) := rfl
theorem mf_68 : (mFl A F)[68]? = some (.ref (A 68)) := rfl
theorem mf_69 : (mFl A F)[69]? = some (.ref (A 69)) := rfl
theorem mf_70 : (mFl A F)[70]? = some (.int (F 70)) := rfl
theorem mf_71 : (mFl A F)[71]? = some (.ref (A 71)) := rfl
theorem mf_72 : (mFl A F)[72]? = some (.ref (A 72)) := rfl
theorem mf_73 : (mFl A F)[73]? = some (.ref (A 73)) := rfl
theorem mf_74 : (mFl A F)[74]? = some (.ref (A 74)) := rfl
theorem mf_75 : (mFl A F)[75]? = some (.int (F 75)) := rfl
theorem mf_76 : (mFl A F)[76]? = some (.ref (A 76)) := rfl
theorem mf_77 : (mFl A F)[77]? = some (.int (F 77)) := rfl
theorem mf_78 : (mFl A F)[78]? = some (.int (F 78)) := rfl
theorem mf_79 : (mFl A F)[79]? = some (.int (F 79)) := rfl
theorem mf_80 : (mFl A F)[80]? = some (.int (F 80)) := rfl
theorem mf_81 : (mFl A F)[81]? = some (.ref (A 81)) := rfl
theorem mf_82 : (mFl A F)[82]? = some (.int (F 82)) := rfl
theorem mf_83 : (mFl A F)[83]? = some (.ref (A 83)) := rfl
theorem mf_84 : (mFl A F)[84]? = some (.int (F 84)) := rfl
theorem mf_85 : (mFl A F)[85]? = some (.ref (A 85)) := rfl
theorem mf_86 : (mFl A F)[86]? = some (.ref (A 86)) := rfl
theorem mf_87 : (mFl A F)[87]? = some (.ref (A 87)) := rfl
theorem mf_88 : (mFl A F)[88]? = some (.ref (A 88)) := rfl
theorem mf_89 : (mFl A F)[89]? = some (.ref (A 89)) := rfl
theorem mf_90 : (mFl A F)[90]? = some (.ref (A 90)) := rfl
theorem mf_91 : (mFl A F)[91]? = some (.ref (A 91)) := rfl
theorem mf_92 : (mFl A F)[92]? = some (.ref (A 92)) := rfl
theorem mf_93 : (mFl A F)[93]? = some (.ref (A 408)) := rfl
theorem mf_94 : (mFl A F)[94]? = some (.ref (A 94)) := rfl
theorem mf_95 : (mFl A F)[95]? = some (.ref (A 95)) := rfl
theorem MW.ob (w : MW A X R I S F h) : h (A 96) = some (Ob 11 (mFl A F)) := WD.o w 96 rfl
theorem MW.o (w : MW A X R I S F h) (k : Nat) (hk : kdM k = (7, 0, 0)) : h (A k) = some (mO A F k) := WD.o w k hk
theorem MW.n (w : MW A X R I S F h) (k : Nat) (hk : kdM k = (1, 0, 12)) : ∃ f, h (A k) = some (Ai false 0 12 f) ∧ V 12 f = R k ∧ R k < pP := WD.n w k hk
theorem MW.n2 (w : MW A X R I S F h) (k : Nat) (hk : kdM k = (2, 0, 12)) : ∃ f, h (A k) = some (Ai false 0 12 f) ∧ V 12 f = R k := WD.n2 w k hk
theorem MW.i (w : MW A X R I S F h) (k : Nat) {t n : Nat} (hk : kdM k = (3, t, n)) : h (A k) = some (Ai false t n (I k)) := WD.i w k hk
theorem MW.j (w : MW A X R I S F h) (k : Nat) {t n : Nat} (hk : kdM k = (4, t, n)) : ∃ f, h (A k) = some (Ai false t n f) := WD.j w k hk
theorem MW.l (w : MW A X R I S F h) (k : Nat) {t n : Nat} (hk : kdM k = (5, t, n)) : ∃ f, h (A k) = some (Al false n f) := WD.l w k hk
theorem MW.s (w : MW A X R I S F h) (k : Nat) {t n : Nat} (hk : kdM k = (6, t, n)) : ∃ f, h (A k) = some (Ai false 2 n f) ∧ PL f (S k) ∧ (S k).length ≤ n := WD.s w k hk
theorem MW.setN (w : MW A X R I S F h) (k : Nat) (hk : kdM k = (1, 0, 12)) {v : Nat} {f : Nat → Int32} (hf : V 12 f = v) (hv : v < pP) : MW A X (up R k v) I S F (hset h (A k) (Ai false 0 12 f)) := WD.setN w k hk hf hv
theorem MW.setN2 (w : MW A X R I S F h) (k : Nat) (hk : kdM k = (2, 0, 12)) {v : Nat} {f : Nat → Int32} (hf : V 12 f = v) : MW A X (up R k v) I S F (hset h (A k) (Ai false 0 12 f)) := WD.setN2 w k hk hf
theorem MW.setI (w : MW A X R I S F h) (k : Nat) {t n : Nat} (hk : kdM k = (3, t, n)) (f : Nat → Int32) : MW A X R (up I k f) S F (hset h (A k) (Ai false t n f)) := WD.setI w k hk f
theorem MW.setJ (w : MW A X R I S F h) (k : Nat) {t n : Nat} (hk : kdM k = (4, t, n)) (f : Nat → Int32) : MW A X R I S F (hset h (A k) (Ai false t n f)) := WD.setJ w k hk f
theorem MW.setL (w : MW A X R I S F h) (k : Nat) {t n : Nat} (hk : kdM k = (5, t, n)) (f : Nat → Int64) : MW A X R I S F (hset h (A k) (Al false n f)) := WD.setL w k hk f
theorem MW.setS (w : MW A X R I S F h) (k : Nat) {t n : Nat} (hk : kdM k = (6, t, n)) {l : List Int32} {f : Nat → Int32} (h1 : PL f l) (h2 : l.length ≤ n) : MW A X R I (up S k l) F (hset h (A k) (Ai false 2 n f)) := WD.setS w k hk h1 h2
theorem mO_ne {i k : Nat} {v : Int32} (hi : i < 96) (hk : k ≠ 96) : mO A (up F i v) k = mO A F k := mO_cg hk (fun _ _ => up_ne (by omega)) (fun _ _ => ⟨up_ne (by omega), up_ne (by omega)⟩)
theorem MW.setF0 (w : MW A X R I S F h) {v : Int32} : MW A X R I S (up F 0 v) (hset h (A 96) (Ob 11 ((mFl A F).set 0 (.int v)))) :=
  WD.setO w 96 (c := Ob 11 ((mFl A F).set 0 (.int v))) rfl rfl (fun j hj => mO_ne (by decide) hj)
theorem MW.setF26 (w : MW A X R I S F h) {v : Int32} : MW A X R I S (up F 26 v) (hset h (A 96) (Ob 11 ((mFl A F).set 26 (.int v)))) :=
  WD.setO w 96 (c := Ob 11 ((mFl A F).set 26 (.int v))) rfl rfl (fun j hj => mO_ne (by decide) hj)
theorem MW.setF33 (w : MW A X R I S F h) {v : Int32} : MW A X R I S (up F 33 v) (hset h (A 96) (Ob 11 ((mFl A F).set 33 (.int v)))) :=
  WD.setO w 96 (c := Ob 11 ((mFl A F).set 33 (.int v))) rfl rfl (fun j hj => mO_ne (by decide) hj)
theorem MW.setF35 (w : MW A X R I S F h) {v : Int32} : MW A X R I S (up F 35 v) (hset h (A 96) (Ob 11 ((mFl A F).set 35 (.int v)))) :=
  WD.setO w 96 (c := Ob 11 ((mFl A F).set 35 (.int v))) rfl rfl (fun j hj => mO_ne (by decide) hj)
theorem MW.setF70 (w : MW A X R I S F h) {v : Int32} : MW A X R I S (up F 70 v) (hset h (A 96) (Ob 11 ((mFl A F).set 70 (.int v)))) :=
  WD.setO w 96 (c := Ob 11 ((mFl A F).set 70 (.int v))) rfl rfl (fun j hj => mO_ne (by decide) hj)
theorem MW.setF75 (w : MW A X R I S F h) {v : Int32} : MW A X R I S (up F 75 v) (hset h (A 96) (Ob 11 ((mFl A F).set 75 (.int v)))) :=
  WD.setO w 96 (c := Ob 11 ((mFl A F).set 75 (.int v))) rfl rfl (fun j hj => mO_ne (by decide) hj)
theorem MW.setF77 (w : MW A X R I S F h) {v : Int32} : MW A X R I S (up F 77 v) (hset h (A 96) (Ob 11 ((mFl A F).set 77 (.int v)))) :=
  WD.setO w 96 (c := Ob 11 ((mFl A F).set 77 (.int v))) rfl rfl (fun j hj => mO_ne (by decide) hj)
theorem MW.setF78 (w : MW A X R I S F h) {v : Int32} : MW A X R I S (up F 78 v) (hset h (A 96) (Ob 11 ((mFl A F).set 78 (.int v)))) :=
  WD.setO w 96 (c := Ob 11 ((mFl A F).set 78 (.int v))) rfl rfl (fun j hj => mO_ne (by decide) hj)
theorem MW.setF79 (w : MW A X R I S F h) {v : Int32} : MW A X R I S (up F 79 v) (hset h (A 96) (Ob 11 ((mFl A F).set 79 (.int v)))) :=
  WD.setO w 96 (c := Ob 11 ((mFl A F).set 79 (.int v))) rfl rfl (fun j hj => mO_ne (by decide) hj)
theorem MW.setF80 (w : MW A X R I S F h) {v : Int32} : MW A X R I S (up F 80 v) (hset h (A 96) (Ob 11 ((mFl A F).set 80 (.int v)))) :=
  WD.setO w 96 (c := Ob 11 ((mFl A F).set 80 (.int v))) rfl rfl (fun j hj => mO_ne (by decide) hj)
theorem MW.setF82 (w : MW A X R I S F h) {v : Int32} : MW A X R I S (up F 82 v) (hset h (A 96) (Ob 11 ((mFl A F).set 82 (.int v)))) :=
  WD.setO w 96 (c := Ob 11 ((mFl A F).set 82 (.int v))) rfl rfl (fun j hj => mO_ne (by decide) hj)
theorem MW.setF84 (w : MW A X R I S F h) {v : Int32} : MW A X R I S (up F 84 v) (hset h (A 96) (Ob 11 ((mFl A F).set 84 (.int v)))) :=
  WD.setO w 96 (c := Ob 11 ((mFl A F).set 84 (.int v))) rfl rfl (fun j hj => mO_ne (by decide) hj)
theorem kd_spot {k : Nat} (h1 : 400 ≤ k) (h2 : k < 431) : kdM k = (7, 0, 0) := by
  unfold kdM
  rw [if_neg (by omega), if_neg (by omega), if_neg (by omega), if_neg (by omega), if_neg (by omega), if_neg (by omega), if_neg (by omega), if_neg (by omega), if_pos h2]
theorem MW.setNone (w : MW A X R I S F h) (k : Nat) (h1 : 400 ≤ k) (h2 : k < 431) {v : Int32} : MW A X R I S (up F k v) (hset h (A k) (Ob 13 [.ref (A (k - 200)), .ref (A (k - 100)), .int v])) := by
  refine WD.setO w k (kd_spot h1 h2) ?_ (fun j hj => ?_)
  · unfold mO
    rw [if_neg (by omega), if_neg (by omega), if_pos h2, up_same]
  · by_cases hj2 : j = 96
    · have e : ∀ i, i < 96 → up F k v i = F i := fun i hi => up_ne (by omega)
      have e2 : mFl A (up F k v) = mFl A F := by
        unfold mFl
        rw [e 0 (by decide), e 26 (by decide), e 33 (by decide), e 35 (by decide), e 70 (by decide), e 75 (by decide), e 77 (by decide), e 78 (by decide), e 79 (by decide), e 80 (by decide), e 82 (by decide), e 84 (by decide)]
      subst hj2
      unfold mO
      rw [if_pos rfl, if_pos rfl, e2]
    · exact mO_cg hj2 (fun _ _ => up_ne hj) (fun _ _ => ⟨up_ne (by omega), up_ne (by omega)⟩)
end MWs
