set_option maxRecDepth 100000
set_option maxHeartbeats 1000000
/-! D14: the reader's state and the reference's: the relation -/
def rid : Value → Nat
  | .ref a => a
  | _ => 0
def lid (c : cS) (L k : Nat) : Nat := rid (nthD .null (cLs c L) k)
/-- counts and numbers of the reference, as naturals -/
def cnt (s : tS) (x : Nat) : Nat := (tI s x).toNatClampNeg
def ca (s : tS) (x k : Nat) : Nat := (tA s x k).toNatClampNeg
def cok (s : tS) (x b : Nat) : Prop := tI s x = Int32.ofNat (cnt s x) ∧ cnt s x ≤ b
def aok (s : tS) (x k b : Nat) : Prop := tA s x k = Int32.ofNat (ca s x k) ∧ ca s x k ≤ b
/-- a list of n objects of a class -/
def lsr (c : cS) (L n cl : Nat) : Prop := (cLs c L).length = n ∧ ∀ k, k < n → nthD .null (cLs c L) k = .ref (lid c L k) ∧ cCl c (lid c L k) = cl
/-- nothing lies where nothing was made -/
def CLN (c : cS) : Prop := ∀ a, cNx c ≤ a → cCl c a = 0 ∧ (∀ x, 100 ≤ x → cI c x a = 0 ∧ cL c x a = 0 ∧ cR c x a = .null) ∧ (∀ j, cAI c a j = 0 ∧ cAL c a j = 0 ∧ cAR c a j = .null) ∧ cLs c a = [] ∧ cCap c a = 0 ∧ cLen c a = 0
def bdx (k x : Nat) : Prop := (k = 27 ∧ x = 2700) ∨ (k = 30 ∧ x = 3003) ∨ (k = 32 ∧ x = 3201)
/-- lists that parts refer to are there -/
def BD (c : cS) : Prop := ∀ a x L, bdx (cCl c a) x → cR c x a = .ref L → cCl c L ≠ 0
def RSt (r : Nat) (c : cS) : Prop := cCl c r = 8 ∧ cR c 800 r = .ref (r + 16) ∧ cR c 801 r = .ref (r + 1) ∧ cR c 805 r = .ref (r + 15) ∧ cCl c (r + 1) = 9 ∧
  (cR c 900 (r + 1) = .ref (r + 2) ∧ cR c 901 (r + 1) = .ref (r + 4) ∧ cR c 902 (r + 1) = .ref (r + 6) ∧ cR c 903 (r + 1) = .ref (r + 8) ∧ cR c 904 (r + 1) = .ref (r + 9) ∧ cR c 905 (r + 1) = .ref (r + 11) ∧ cR c 906 (r + 1) = .ref (r + 13) ∧ cR c 907 (r + 1) = .ref (r + 14)) ∧
  (cCl c (r + 2) = 5900 ∧ cCl c (r + 4) = 5901 ∧ cCl c (r + 6) = 5902 ∧ cCl c (r + 8) = 5903 ∧ cCl c (r + 9) = 5904 ∧ cCl c (r + 11) = 5905 ∧ cCl c (r + 13) = 5906 ∧ cCl c (r + 14) = 5907 ∧ cCl c (r + 15) = 5805 ∧ BD c)
/-- counters, numbers, names -/
def RCt (r : Nat) (c : cS) (s : tS) : Prop := (cok s 62 400 ∧ cI c 908 (r + 1) = tI s 62) ∧ (cok s 63 24 ∧ cI c 806 r = tI s 63) ∧
  (cok s 58 400 ∧ cnt s 58 ≤ cnt s 62 ∧ (cLs c (r + 13)).length = cnt s 58 ∧ ∀ k, k < cnt s 58 → nthD .null (cLs c (r + 13)) k = .float (tA s 59 k).toUInt32) ∧
  (cok s 60 400 ∧ cnt s 60 ≤ cnt s 62 ∧ (cLs c (r + 14)).length = cnt s 60 ∧ ∀ k, k < cnt s 60 → ∃ a : Int64, nthD .null (cLs c (r + 14)) k = .double a.toUInt64 ∧ nm a (tB s 61 k)) ∧
  (cok s 65 900 ∧ cnt s 65 ≤ 2 * cnt s 62)
/-- a pattern of the component and the reference's pattern q -/
def pOK (c : cS) (s : tS) (P q : Nat) : Prop := ∃ l tl, PT c P l tl ∧ gs l ∧ l.length ≤ 5 ∧ tl < 3 ∧ tA s 18 q = Int32.ofNat l.length ∧ tA s 19 q = Int32.ofNat tl ∧ ∀ i, i < l.length → tB s 17 (5 * q + i) = p37 (nthD [] l i)
/-- a list of rights and the reference's rights -/
def rOK (c : cS) (s : tS) (L of cl : Nat) : Prop := cCl c L = cl ∧ aok s 23 of 8 ∧ lsr c L (ca s 23 of) 14 ∧ ∀ i, i < ca s 23 of → nm (cL c 1400 (lid c L i)) (tB s 24 (8 * of + i)) ∧ ∃ P, cR c 1401 (lid c L i) = .ref P ∧ pOK c s P (16 + (8 * of + i))
def RGt (r : Nat) (c : cS) (s : tS) : Prop := cok s 20 8 ∧ lsr c (r + 2) (cnt s 20) 13 ∧ ∀ k, k < cnt s 20 → ∃ P L, cR c 1300 (lid c (r + 2) k) = .ref P ∧ pOK c s P (8 + k) ∧ cR c 1301 (lid c (r + 2) k) = .ref L ∧ rOK c s L k 6301
def RLt (r : Nat) (c : cS) (s : tS) : Prop := cok s 22 12 ∧ lsr c (r + 9) (cnt s 22) 23 ∧ ∀ k, k < cnt s 22 → ∃ L, cR c 2300 (lid c (r + 9) k) = .ref L ∧ rOK c s L (8 + k) 7300
/-- fields of the modules above -/
def fAb (s : tS) : Nat → Nat → Nat
  | 0, _ => 0
  | g + 1, k => if tA s 27 k = -1 then 0 else ca s 28 (ca s 27 k) + fAb s g (ca s 27 k)
/-- one module: k, its object a; x methods more at the reference's -/
def mOK (r : Nat) (c : cS) (s : tS) (k a x : Nat) : Prop := cI c 1500 a = Int32.ofNat k ∧ nm (cL c 1501 a) (tB s 26 k) ∧ (∃ P, cR c 1502 a = .ref P ∧ pOK c s P k ∧ tA s 19 k = 0) ∧
  ((cR c 1503 a = .null ∧ tA s 27 k = -1) ∨ (∃ j, j < k ∧ tA s 27 k = Int32.ofNat j ∧ cR c 1503 a = .ref (lid c (r + 4) j))) ∧
  (cR c 1505 a = .ref (a + 1) ∧ cCl c (a + 1) = 6505 ∧ aok s 28 k 4 ∧ (cLs c (a + 1)).length = ca s 28 k ∧ ∀ i, i < ca s 28 k → ∃ v : Int64, nthD .null (cLs c (a + 1)) i = .double v.toUInt64 ∧ nm v (tB s 29 (4 * k + i))) ∧
  cI c 1506 a = Int32.ofNat (fAb s 8 k) ∧
  (cR c 1507 a = .ref (a + 3) ∧ cCl c (a + 3) = 6507 ∧ aok s 30 k 12 ∧ (cLs c (a + 3)).length + x = ca s 30 k ∧ ∀ i, i < (cLs c (a + 3)).length → aok s 31 (12 * k + i) 59 ∧ ca s 31 (12 * k + i) < cnt s 35 ∧ tA s 36 (ca s 31 (12 * k + i)) = 0 ∧ nthD .null (cLs c (a + 3)) i = .ref (lid c (r + 8) (ca s 31 (12 * k + i))))
/-- all modules; of the last one x methods more at the reference's -/
def RMt (r x : Nat) (c : cS) (s : tS) : Prop := cok s 25 8 ∧ lsr c (r + 4) (cnt s 25) 15 ∧ ∀ k, k < cnt s 25 → mOK r c s k (lid c (r + 4) k) (if k + 1 = cnt s 25 then x else 0)
/-- a unit's own variables -/
def ow (s : tS) (k : Nat) : Nat := (if tA s 36 k = 0 then 1 else 0) + ca s 39 k + ca s 46 k
def uOK (r : Nat) (c : cS) (s : tS) (k a : Nat) : Prop := (cI c 1600 a = Int32.ofNat k ∧ aok s 36 k 4 ∧ cI c 1601 a = tA s 36 k ∧ cI c 1602 a = tA s 38 k) ∧
  (aok s 37 k 7 ∧ ca s 37 k < cnt s 25 ∧ cR c 1603 a = .ref (lid c (r + 4) (ca s 37 k))) ∧
  ((tA s 40 k = -1 ∧ tA s 36 k = 0 ∧ cR c 1604 a = .null) ∨ (aok s 40 k 59 ∧ ca s 40 k < k ∧ tA s 36 k ≠ 0 ∧ cR c 1604 a = .ref (lid c (r + 8) (ca s 40 k)))) ∧
  (cR c 1605 a = .ref (a + 1) ∧ cCl c (a + 1) = 6605 ∧ cR c 1614 a = .ref (a + 3) ∧ cCl c (a + 3) = 6614 ∧ cR c 1617 a = .ref (a + 5) ∧ cCl c (a + 5) = 6617) ∧
  (if tA s 36 k = 0 then nm (cL c 1606 a) (tB s 43 k) else cL c 1606 a = 0) ∧
  (aok s 39 k 3 ∧ cI c 1607 a = tA s 39 k) ∧ (aok s 46 k 200 ∧ cI c 1608 a = Int32.ofNat (ow s k)) ∧
  (cI c 1610 a = tA s 42 k ∧ (tA s 42 k = -1 ∨ (tA s 36 k = 3 ∧ aok s 42 k 11 ∧ ca s 42 k < cnt s 22)))
def RUt (r : Nat) (c : cS) (s : tS) : Prop := cok s 35 60 ∧ lsr c (r + 8) (cnt s 35) 16 ∧ ∀ k, k < cnt s 35 → uOK r c s k (lid c (r + 8) k)
/-- the object of a variable in a unit: its own, or the captured one -/
def vR (r : Nat) (vo : Nat → Nat) (c : cS) (s : tS) (u v o : Nat) : Prop := (tA s 51 v = Int32.ofNat u ∧ o = vo v) ∨ (tA s 51 v ≠ Int32.ofNat u ∧ ∃ i, i < ca s 44 u ∧ tA s 45 (16 * u + i) = Int32.ofNat v ∧ nthD .null (cLs c (lid c (r + 8) u + 1)) i = .ref o)
/-- a variable's place among its unit's own -/
def vI (s : tS) (v : Nat) : Nat := ca s 53 v + (if tA s 54 v = 0 then 0 else ca s 39 (ca s 51 v) + (if tA s 36 (ca s 51 v) = 0 then 1 else 0))
def RVt (r : Nat) (vo : Nat → Nat) (c : cS) (s : tS) : Prop := cok s 50 500 ∧
  (∀ v, v < cnt s 50 → cCl c (vo v) = 17 ∧ aok s 51 v 59 ∧ ca s 51 v < cnt s 35 ∧ cR c 1701 (vo v) = .ref (lid c (r + 8) (ca s 51 v)) ∧ cR c 1702 (vo v) = .null ∧ (tA s 54 v = 0 ∨ tA s 54 v = 1) ∧ aok s 53 v 500 ∧ cI c 1703 (vo v) = Int32.ofNat (vI s v)) ∧
  (∀ v v', v < cnt s 50 → v' < cnt s 50 → vo v = vo v' → v = v') ∧
  (∀ k, k < cnt s 35 → aok s 44 k 13 ∧ lsr c (lid c (r + 8) k + 1) (ca s 44 k) 17 ∧ (∀ i, i < ca s 44 k → aok s 45 (16 * k + i) 499 ∧ ca s 45 (16 * k + i) < cnt s 50 ∧ tA s 40 k ≠ -1 ∧
    cR c 1701 (lid c (lid c (r + 8) k + 1) i) = .ref (lid c (r + 8) k) ∧ cI c 1703 (lid c (lid c (r + 8) k + 1) i) = Int32.ofNat i ∧ ca s 51 (ca s 45 (16 * k + i)) ≠ k ∧ ∃ o, cR c 1702 (lid c (lid c (r + 8) k + 1) i) = .ref o ∧ vR r vo c s (ca s 40 k) (ca s 45 (16 * k + i)) o) ∧
    (∀ i j, i < ca s 44 k → j < ca s 44 k → tA s 45 (16 * k + i) = tA s 45 (16 * k + j) → i = j))
/-- a unit v is u or around it -/
def anc (s : tS) : Nat → Nat → Nat → Prop
  | 0, _, _ => False
  | g + 1, u, v => u = v ∨ (tA s 40 u ≠ -1 ∧ anc s g (ca s 40 u) v)
/-- what is captured on the way to the unit at hand can be seen, or is self -/
def CPr (s : tS) (q : Nat) : Prop := ∀ k, k < cnt s 35 → anc s 60 (cnt s 64) k → ∀ i, i < ca s 44 k → (∃ j, j < cnt s 56 ∧ ca s 45 (16 * k + i) = ca s 57 j) ∨ ca s 45 (16 * k + i) = ca s 55 q
/-- what can be seen, the unit at hand, self -/
def RIt (r : Nat) (vo : Nat → Nat) (c : cS) (s : tS) : Prop := (cok s 64 59 ∧ cnt s 64 < cnt s 35 ∧ cR c 803 r = .ref (lid c (r + 8) (cnt s 64))) ∧ (0 < cnt s 25 ∧ cR c 802 r = .ref (lid c (r + 4) (cnt s 25 - 1)) ∧ ca s 37 (cnt s 64) = cnt s 25 - 1) ∧
  (cok s 56 12 ∧ (cLs c (r + 15)).length = cnt s 56 ∧ ∀ i, i < cnt s 56 → aok s 57 i 499 ∧ ca s 57 i < cnt s 50 ∧ nthD .null (cLs c (r + 15)) i = .ref (vo (ca s 57 i)) ∧ nm (cL c 1700 (vo (ca s 57 i))) (tB s 52 (ca s 57 i)) ∧ anc s 60 (cnt s 64) (ca s 51 (ca s 57 i))) ∧
  (∃ q, q < cnt s 35 ∧ tA s 40 q = -1 ∧ anc s 60 (cnt s 64) q ∧ aok s 55 q 499 ∧ ca s 55 q < cnt s 50 ∧ ca s 51 (ca s 55 q) = q ∧ cR c 804 r = .ref (vo (ca s 55 q)) ∧ CPr s q)
/-- numbers that are apart -/
def injK (X : Nat → Nat) (K : Nat) : Prop := ∀ i j, i < K → j < K → X i = X j → i = j
/-- what a unit does itself, and the nodes; Op: nodes that are open yet -/
def RFt (r : Nat) (Op : Nat → Prop) (c : cS) (s : tS) : Prop := (∀ x, x < cnt s 65 → aok s 67 x 59 ∧ ca s 67 x < cnt s 35 ∧ aok s 66 x 42) ∧ ∀ k, k < cnt s 35 →
  (∀ y, y ∈ [1612, 1613, 1616] → cI c y (lid c (r + 8) k) = 0 ∨ cI c y (lid c (r + 8) k) = 1) ∧
  (cI c 1612 (lid c (r + 8) k) = 1 → ∃ x, x < cnt s 65 ∧ ca s 67 x = k ∧ (ca s 66 x = 25 ∨ ca s 66 x = 26 ∨ ca s 66 x = 27)) ∧
  (∀ x, x < cnt s 65 → ¬ Op x → ca s 67 x = k → (ca s 66 x = 25 ∨ ca s 66 x = 26 ∨ ca s 66 x = 27) → cI c 1612 (lid c (r + 8) k) = 1) ∧
  (cI c 1613 (lid c (r + 8) k) = 1 → ∃ x, x < cnt s 65 ∧ ca s 67 x = k ∧ ca s 66 x = 27) ∧
  (∀ x, x < cnt s 65 → ¬ Op x → ca s 67 x = k → ca s 66 x = 27 → cI c 1613 (lid c (r + 8) k) = 1) ∧
  (cI c 1616 (lid c (r + 8) k) = 1 → ∃ x, x < cnt s 65 ∧ ca s 67 x = k ∧ ca s 66 x = 23) ∧
  (∀ x, x < cnt s 65 → ¬ Op x → ca s 67 x = k → ca s 66 x = 23 → cI c 1616 (lid c (r + 8) k) = 1) ∧
  (∃ b0 b1 b2 b3 : Bool, cI c 1615 (lid c (r + 8) k) = (if b0 then 1 else 0) + (if b1 then 2 else 0) + (if b2 then 4 else 0) + (if b3 then 8 else 0) ∧ ∀ m, m < 4 → (nthD false [b0, b1, b2, b3] m = true → ∃ x, x < cnt s 65 ∧ ¬ Op x ∧ ca s 67 x = k ∧ ca s 66 x = 8 ∧ tA s 68 x = Int32.ofNat m) ∧ ∀ x, x < cnt s 65 → ¬ Op x → ca s 67 x = k → ca s 66 x = 8 → tA s 68 x = Int32.ofNat m → nthD false [b0, b1, b2, b3] m = true) ∧
  (∀ x, x < cnt s 65 → ¬ Op x → ca s 66 x = 8 → aok s 68 x 3) ∧
  (∃ K, lsr c (lid c (r + 8) k + 3) K 30 ∧ (∃ X, injK X K ∧ ∀ i, i < K → X i < cnt s 65 ∧ ¬ Op (X i) ∧ ca s 67 (X i) = k ∧ ca s 66 (X i) = 7 ∧ ca s 68 (X i) < cnt s 60 ∧ nm (cL c 3002 (lid c (lid c (r + 8) k + 3) i)) (tB s 61 (ca s 68 (X i))) ∧ (∃ o, cR c 3000 (lid c (lid c (r + 8) k + 3) i) = .ref o) ∧ ∃ L, cR c 3003 (lid c (lid c (r + 8) k + 3) i) = .ref L ∧ cCl c L = 5891 ∧ tA s 69 (X i) = Int32.ofNat (cLs c L).length) ∧
    (∀ x, x < cnt s 65 → ¬ Op x → ca s 67 x = k → ca s 66 x = 7 → ∃ i, i < K ∧ ca s 68 x < cnt s 60 ∧ nm (cL c 3002 (lid c (lid c (r + 8) k + 3) i)) (tB s 61 (ca s 68 x)) ∧ (∃ o, cR c 3000 (lid c (lid c (r + 8) k + 3) i) = .ref o) ∧ ∃ L, cR c 3003 (lid c (lid c (r + 8) k + 3) i) = .ref L ∧ cCl c L = 5891 ∧ tA s 69 x = Int32.ofNat (cLs c L).length)) ∧
  (∃ K, lsr c (lid c (r + 8) k + 5) K 16 ∧ (∃ X, injK X K ∧ ∀ i, i < K → ∃ x, x < cnt s 65 ∧ ca s 67 x = k ∧ ca s 66 x = 10 ∧ ca s 68 x = X i ∧ X i < cnt s 35 ∧ tA s 36 (X i) = 3 ∧ lid c (lid c (r + 8) k + 5) i = lid c (r + 8) (X i)) ∧
    (∀ x, x < cnt s 65 → ¬ Op x → ca s 67 x = k → ca s 66 x = 10 → aok s 68 x 59 ∧ ca s 68 x < cnt s 35 ∧ ca s 40 (ca s 68 x) = k ∧ tA s 40 (ca s 68 x) ≠ -1 ∧ (tA s 36 (ca s 68 x) = 3 → ∃ i, i < K ∧ lid c (lid c (r + 8) k + 5) i = lid c (r + 8) (ca s 68 x))))
/-- what is asked in the text; Oa: askings that are open yet -/
def RAt (r : Nat) (Oa : Nat → Prop) (c : cS) (s : tS) : Prop := cok s 48 24 ∧ (cLs c (r + 11)).length = cnt s 48 ∧ ∀ k, k < cnt s 48 → (nthD .null (cLs c (r + 11)) k ≠ .null → nthD .null (cLs c (r + 11)) k = .ref (lid c (r + 11) k) ∧ cCl c (lid c (r + 11) k) = 29 ∧ cI c 2900 (lid c (r + 11) k) = Int32.ofNat k ∧ (cI c 2901 (lid c (r + 11) k) = 0 ∨ cI c 2901 (lid c (r + 11) k) = 1) ∧
  (∃ R P, cR c 2902 (lid c (r + 11) k) = .ref R ∧ cCl c R = 14 ∧ nm (cL c 1400 R) (tB s 49 k) ∧ cR c 1401 R = .ref P ∧ pOK c s P (240 + k) ∧ tA s 19 (240 + k) = 0)) ∧ (¬ Oa k → nthD .null (cLs c (r + 11)) k ≠ .null ∧ ((tA s 136 k = 0 ∧ cR c 2903 (lid c (r + 11) k) = .null) ∨ (tA s 136 k = 1 ∧ ∃ o, cR c 2903 (lid c (r + 11) k) = .ref o ∧ cCl c o ≠ 0))) ∧ (Oa k → nthD .null (cLs c (r + 11)) k ≠ .null → cR c 2903 (lid c (r + 11) k) = .null)
