set_option maxRecDepth 100000
/-! THE ABSTRACT STATE: numbers N and rows of bytes L.
 N 0 keys, 1 askings, 2 written, 3 the fuse and 1, 4 redeemed, 5 down, 6 thrown; of key k: 100 type, 110 live, 120 secret, 130 modulus, 140 exponent, 150 length, 160 bytes of salt; of asking a: 200 key, 300 open, 400 blind.
 L 0 tape, 1 out, 2 disk; 100 the id of key k; 200 the input of asking a -/
def bitsN (m : Nat) : Nat := Nat.log2 m + 1
def limN (N : Nat → Nat) (k : Nat) : Nat := if N (100 + k) = 1 then 12 else (N (150 + k) + 3) / 4
def KOk (N : Nat → Nat) (L : Nat → List Int32) (k : Nat) : Prop :=
  N (110 + k) ≤ 1 ∧ (L (100 + k)).length = 32 ∧ IsB (L (100 + k)) ∧
  ((N (100 + k) = 1 ∧ 0 < N (120 + k) ∧ N (120 + k) < qP ∧ N (150 + k) = 48) ∨
   (N (100 + k) = 2 ∧ 0 < N (120 + k) ∧ N (120 + k) < N (130 + k) ∧ N (130 + k) % 2 = 1 ∧ 66 ≤ N (150 + k) ∧ N (150 + k) ≤ 256 ∧ 256 ^ (N (150 + k) - 1) ≤ N (130 + k) ∧ N (130 + k) < 256 ^ N (150 + k) ∧ 3 ≤ N (140 + k) ∧ N (140 + k) ≤ 65537 ∧ (N (160 + k) = 0 ∨ (N (160 + k) = 48 ∧ 100 ≤ N (150 + k)))))
def AOk (N : Nat → Nat) (L : Nat → List Int32) (a : Nat) : Prop :=
  N (200 + a) < N 0 ∧ N (300 + a) ≤ 1 ∧ (L (200 + a)).length = 98 ∧ IsB (L (200 + a)) ∧
  ((N (100 + N (200 + a)) = 1 ∧ 0 < N (400 + a) ∧ N (400 + a) < qP ∧ h2p (L (200 + a)) ≠ none ∧ mP (N (400 + a)) (h2p (L (200 + a))) ≠ none) ∨
   (N (100 + N (200 + a)) = 2 ∧ 0 < N (400 + a) ∧ N (400 + a) < N (130 + N (200 + a)) ∧ Nat.gcd (N (400 + a)) (N (130 + N (200 + a))) = 1))
def Wf (N : Nat → Nat) (L : Nat → List Int32) : Prop :=
  N 0 ≤ 6 ∧ N 1 ≤ 60 ∧ N 2 < 2 ^ 30 ∧ N 3 ≤ 1001 ∧ N 4 < 2 ^ 30 ∧ N 5 ≤ 1 ∧ N 6 ≤ 1 ∧ (L 0).length ≤ 1200 ∧ (L 1).length ≤ 1200 ∧ (L 2).length = 4096 ∧ IsB (L 0) ∧ IsB (L 1) ∧ IsB (L 2) ∧ (∀ k, k < N 0 → KOk N L k) ∧ (∀ a, a < N 1 → AOk N L a)
/-- what never changes in the reference -/
def MB (R : Nat → Nat) (F : Nat → Int32) : Prop := R 16 = eP ∧ fp (R 44) = -3 ∧ fp (R 45) = zP ∧ fp (R 45) = -12 ∧ spt R F 0 = GP ∧ F 400 = 0 ∧ F 26 = 0
def KM (N : Nat → Nat) (L : Nat → List Int32) (R : Nat → Nat) (I : Nat → Nat → Int32) (S : Nat → List Int32) (F : Nat → Int32) (k : Nat) : Prop :=
  I 61 k = nI (N (100 + k)) ∧ I 62 k = nI (N (110 + k)) ∧ sub (S 63) (32 * k) 32 = L (100 + k) ∧ I 68 k = nI (N (150 + k)) ∧
  (N (100 + k) = 1 → SpO R F (25 + k) ∧ spt R F (25 + k) = mP (N (120 + k)) GP ∧ V 12 (I (530 + k)) = N (120 + k)) ∧
  (N (100 + k) = 2 → ∃ sh, sh < 32 ∧ MoS I F (2 + k) (limN N k) (N (130 + k)) ∧ F (542 + k) = nI (limN N k) ∧ F (552 + k) = nI sh ∧ btN (limN N k) sh = bitsN (N (130 + k)) ∧ I 67 k = nI (N (140 + k)) ∧ I 69 k = nI (N (160 + k)) ∧ V (limN N k) (I (530 + k)) = N (120 + k))
def AM (N : Nat → Nat) (L : Nat → List Int32) (I : Nat → Nat → Int32) (S : Nat → List Int32) (a : Nat) : Prop :=
  I 71 a = nI (N (200 + a)) ∧ I 72 a = nI (N (300 + a)) ∧ sub (S 73) (98 * a) 98 = L (200 + a) ∧ V (limN N (N (200 + a))) (I (600 + a)) = N (400 + a)
/-- the reference stands for the state -/
def MS (N : Nat → Nat) (L : Nat → List Int32) (R : Nat → Nat) (I : Nat → Nat → Int32) (S : Nat → List Int32) (F : Nat → Int32) : Prop :=
  MB R F ∧ S 81 = L 0 ∧ F 82 = nI (L 0).length ∧ S 83 = L 1 ∧ F 84 = nI (L 1).length ∧ S 76 = L 2 ∧ (S 63).length = 192 ∧ IsB (S 63) ∧ (S 73).length = 5880 ∧ IsB (S 73) ∧
  F 70 = nI (N 0) ∧ F 75 = nI (N 1) ∧ F 77 = nI (N 2) ∧ F 78 = nI (N 3) - 1 ∧ F 79 = nI (N 4) ∧ F 80 = nI (N 5) ∧ F 0 = nI (N 6) ∧ (∀ k, k < N 0 → KM N L R I S F k) ∧ (∀ a, a < N 1 → AM N L I S a)
def MRep (N : Nat → Nat) (L : Nat → List Int32) (A : Nat → Nat) (X : AH) (h : AH) : Prop := ∃ R I S F, MW A X R I S F h ∧ MS N L R I S F
