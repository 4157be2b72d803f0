set_option maxRecDepth 100000
set_option maxHeartbeats 1000000
/-! D15: parts and nodes -/
/-- parts in a row and the nodes behind each other from p on -/
def chn (T : Nat → Nat → Nat → Prop) (s : tS) : List Nat → Int32 → Nat → Prop
  | [], p, _ => p = -1
  | a :: l, p, W => ∃ y W1 W2, p = Int32.ofNat y ∧ y < 900 ∧ T a y W1 ∧ W1 + W2 ≤ W ∧ chn T s l (tA s 71 y) W2
/-- a variable as it is used in a unit -/
def useOK (r : Nat) (c : cS) (s : tS) (u v o : Nat) : Prop := cCl c o = 17 ∧ cR c 1701 o = .ref (lid c (r + 8) u) ∧ v < cnt s 50 ∧
  ((cR c 1702 o = .null ∧ tA s 51 v = Int32.ofNat u ∧ cI c 1703 o = Int32.ofNat (vI s v)) ∨ (∃ o', cR c 1702 o = .ref o' ∧ tA s 51 v ≠ Int32.ofNat u ∧ ∃ i, i < ca s 44 u ∧ tA s 45 (16 * u + i) = Int32.ofNat v ∧ cI c 1703 o = Int32.ofNat i))
/-- part a and node x; Q: where nodes within may lie; H: how high, D: how many tries, W: weight -/
def TR : Nat → (Nat → Prop) → Nat → cS → tS → Nat → Nat → Nat → Nat → Nat → Nat → Prop
  | 0, _, _, _, _, _, _, _, _, _, _ => False
  | g + 1, Q, r, c, s, u, H, D, a, x, W =>
    (cCl c a = 27 ∧ ∃ L b, cR c 2700 a = .ref L ∧ cCl c L = 5890 ∧ cLs c L = [.ref b] ∧ TR g Q r c s u H D b x W) ∨
    (x < cnt s 65 ∧ aok s 67 x 59 ∧ ca s 67 x = u ∧ aok s 66 x 42 ∧ 1 ≤ H ∧ 8 ≤ W ∧ (
      (cCl c a = 25 ∧ cI c 2500 a = tA s 66 x ∧ tA s 70 x = -1 ∧ ((ca s 66 x = 1 ∧ cI c 2501 a = -1) ∨ (ca s 66 x = 0 ∧ aok s 68 x 399 ∧ ca s 68 x < cnt s 58 ∧ cI c 2501 a = tA s 68 x) ∨ (ca s 66 x = 4 ∧ aok s 68 x 7 ∧ ca s 68 x < cnt s 25 ∧ cI c 2501 a = tA s 68 x))) ∨
      (cCl c a = 26 ∧ ca s 66 x = 2 ∧ tA s 70 x = -1 ∧ ∃ o v, cR c 2600 a = .ref o ∧ tA s 68 x = Int32.ofNat v ∧ useOK r c s u v o) ∨
      (cCl c a = 28 ∧ ca s 66 x = 27 ∧ tA s 70 x = -1) ∨
      (cCl c a = 33 ∧ cI c 3300 a = tA s 66 x ∧ (ca s 66 x = 21 ∨ ca s 66 x = 22 ∨ ca s 66 x = 23 ∨ ca s 66 x = 24) ∧ cR c 3302 a = .null ∧ ∃ a1 W1, cR c 3301 a = .ref a1 ∧ chn (fun b y W => Q y ∧ TR g Q r c s u H D b y W) s [a1] (tA s 70 x) W1 ∧ W1 + 8 ≤ W) ∨
      (cCl c a = 33 ∧ cI c 3300 a = tA s 66 x ∧ 11 ≤ ca s 66 x ∧ ca s 66 x ≤ 15 ∧ ∃ a1 a2 y W1 W2, cR c 3301 a = .ref a1 ∧ cR c 3302 a = .ref a2 ∧ tA s 70 x = Int32.ofNat y ∧ y < 900 ∧ tA s 72 y = Int32.ofNat x ∧ Q y ∧ TR g Q r c s u H D a1 y W1 ∧ chn (fun b y W => Q y ∧ TR g Q r c s u (H - 1) D b y W) s [a2] (tA s 71 y) W2 ∧ W1 + W2 + 8 ≤ W) ∨
      (cCl c a = 31 ∧ aok s 68 x 399 ∧ ca s 68 x < cnt s 60 ∧ cI c 3102 a = tA s 68 x ∧ ∃ a1 l y W1 W2, cR c 3100 a = .ref a1 ∧ ((ca s 66 x = 5 ∧ l = [] ∧ cR c 3101 a = .null) ∨ (∃ a2, ca s 66 x = 6 ∧ l = [a2] ∧ cR c 3101 a = .ref a2)) ∧ tA s 70 x = Int32.ofNat y ∧ y < 900 ∧ tA s 72 y = Int32.ofNat x ∧ Q y ∧ TR g Q r c s u H D a1 y W1 ∧ chn (fun b y W => Q y ∧ TR g Q r c s u (H - 1) D b y W) s l (tA s 71 y) W2 ∧ W1 + W2 + 8 ≤ W) ∨
      (cCl c a = 30 ∧ ca s 66 x = 7 ∧ aok s 68 x 399 ∧ ca s 68 x < cnt s 60 ∧ cI c 3001 a = tA s 68 x ∧ nm (cL c 3002 a) (tB s 61 (ca s 68 x)) ∧ 4 ≤ H ∧ 12 ≤ W ∧ ∃ a1 L l y W1 W2, cR c 3000 a = .ref a1 ∧ cR c 3003 a = .ref L ∧ cCl c L = 5891 ∧ cLs c L = l.map .ref ∧ l.length ≤ 3 ∧ tA s 69 x = Int32.ofNat l.length ∧ tA s 70 x = Int32.ofNat y ∧ y < 900 ∧ tA s 72 y = Int32.ofNat x ∧ Q y ∧ TR g Q r c s u H D a1 y W1 ∧ chn (fun b y W => Q y ∧ TR g Q r c s u (H - 3) D b y W) s l (tA s 71 y) W2 ∧ W1 + W2 + 12 ≤ W) ∨
      (cCl c a = 32 ∧ ca s 66 x = 8 ∧ 4 ≤ H ∧ 12 ≤ W ∧ ∃ a1 L l y W1 W2, cR c 3200 a = .ref a1 ∧ cR c 3201 a = .ref L ∧ cCl c L = 5891 ∧ cLs c L = l.map .ref ∧ l.length ≤ 3 ∧ tA s 68 x = Int32.ofNat l.length ∧ tA s 70 x = Int32.ofNat y ∧ y < 900 ∧ tA s 72 y = Int32.ofNat x ∧ Q y ∧ TR g Q r c s u H D a1 y W1 ∧ chn (fun b y W => Q y ∧ TR g Q r c s u (H - 3) D b y W) s l (tA s 71 y) W2 ∧ W1 + W2 + 12 ≤ W) ∨
      (cCl c a = 24 ∧ 14 ≤ H ∧ 50 ≤ W ∧ aok s 68 x 59 ∧ ca s 68 x < cnt s 35 ∧ cR c 2400 a = .ref (lid c (r + 8) (ca s 68 x)) ∧ ca s 40 (ca s 68 x) = u ∧ tA s 40 (ca s 68 x) ≠ -1 ∧
        ((ca s 66 x = 9 ∧ tA s 36 (ca s 68 x) = 1 ∧ cR c 2401 a = .null ∧ tA s 70 x = -1) ∨ (ca s 66 x = 10 ∧ (tA s 36 (ca s 68 x) = 2 ∨ tA s 36 (ca s 68 x) = 3) ∧ cR c 2401 a = .null ∧ tA s 70 x = -1) ∨ (ca s 66 x = 10 ∧ tA s 36 (ca s 68 x) = 4 ∧ ∃ a1 W1, cR c 2401 a = .ref a1 ∧ chn (fun b y W => Q y ∧ TR g Q r c s u H D b y W) s [a1] (tA s 70 x) W1 ∧ W1 + 50 ≤ W))) ∨
      (cCl c a = 19 ∧ ca s 66 x = 40 ∧ ∃ o v a1 a2 W1, cR c 1900 a = .ref o ∧ cR c 1702 o = .null ∧ tA s 68 x = Int32.ofNat v ∧ useOK r c s u v o ∧ cR c 1901 a = .ref a1 ∧ cR c 1902 a = .ref a2 ∧ chn (fun b y W => Q y ∧ TR g Q r c s u H D b y W) s [a1, a2] (tA s 70 x) W1 ∧ W1 + 8 ≤ W) ∨
      (cCl c a = 20 ∧ ca s 66 x = 41 ∧ ∃ a1 a2 a3 W1, cR c 2000 a = .ref a1 ∧ cR c 2001 a = .ref a2 ∧ cR c 2002 a = .ref a3 ∧ chn (fun b y W => Q y ∧ TR g Q r c s u H D b y W) s [a1, a2, a3] (tA s 70 x) W1 ∧ W1 + 8 ≤ W) ∨
      (cCl c a = 21 ∧ ca s 66 x = 19 ∧ 1 ≤ D ∧ 12 ≤ W ∧ ∃ o v a1 a2 y W1 W2, cR c 2102 a = .ref o ∧ cR c 1702 o = .null ∧ tA s 68 x = Int32.ofNat v ∧ useOK r c s u v o ∧ cR c 2100 a = .ref a1 ∧ cR c 2101 a = .ref a2 ∧ tA s 70 x = Int32.ofNat y ∧ y < 900 ∧ Q y ∧ TR g Q r c s u H (D - 1) a1 y W1 ∧ chn (fun b y W => Q y ∧ TR g Q r c s u H D b y W) s [a2] (tA s 71 y) W2 ∧ W1 + W2 + 12 ≤ W) ∨
      (cCl c a = 27 ∧ ca s 66 x = 42 ∧ ∃ L l W1, cR c 2700 a = .ref L ∧ cCl c L = 5890 ∧ cLs c L = l.map .ref ∧ 2 ≤ l.length ∧ chn (fun b y W => Q y ∧ TR g Q r c s u H D b y W) s l (tA s 70 x) W1 ∧ W1 + l.length ≤ W) ∨
      (cCl c a = 29 ∧ ((ca s 66 x = 25 ∧ cI c 2901 a = 0) ∨ (ca s 66 x = 26 ∧ cI c 2901 a = 1)) ∧ 2 ≤ H ∧ aok s 68 x 23 ∧ ca s 68 x < cnt s 48 ∧ (cI c 2900 a = tA s 68 x ∧ cCl c (r + 11) = 5905 ∧ nthD .null (cLs c (r + 11)) (ca s 68 x) = .ref a) ∧ ((tA s 136 (ca s 68 x) = 0 ∧ tA s 70 x = -1) ∨ (∃ a1 W1, cR c 2903 a = .ref a1 ∧ chn (fun b y W => Q y ∧ TR g Q r c s u H D b y W) s [a1] (tA s 70 x) W1 ∧ W1 + 8 ≤ W)))))
def sumTo (W : Nat → Nat) : Nat → Nat
  | 0 => 0
  | n + 1 => sumTo W n + W n
/-- the units' bodies; Ou: units that are open yet; E: what else was counted -/
def RBt (r : Nat) (Ou : Nat → Prop) (E : Nat) (c : cS) (s : tS) : Prop := ∃ Wt : Nat → Nat, sumTo Wt (cnt s 35) + E ≤ 60 * cnt s 62 ∧ ∀ k, k < cnt s 35 → ¬ Ou k → ∃ g a x, cR c 1611 (lid c (r + 8) k) = .ref a ∧ tA s 41 k = Int32.ofNat x ∧ TR g (fun _ => True) r c s k 149 24 a x (Wt k) ∧ (tA s 36 k = 3 → tA s 42 k ≠ -1)
/-- how many variables there are; O: lets that are open yet -/
def RNt (O f : Nat) (s : tS) : Prop := ∃ Lt, (∀ k, k < cnt s 35 → ca s 46 k ≤ Lt) ∧ cnt s 50 ≤ 4 * cnt s 35 + Lt ∧ 7 * Lt ≤ f + O ∧ O ≤ 4 * cnt s 63
/-! what is changed at most -/
def dj (a b : List Nat) : Bool := a.all (fun x => !b.contains x)
theorem dj_not {a b : List Nat} (h : dj a b = true) {x : Nat} (hx : x ∈ a) : x ∉ b := by
  unfold dj at h
  rw [List.all_eq_true] at h
  have := h x hx
  simpa using this
/-- made, but not set up yet -/
def raw0 (c : cS) (a : Nat) : Prop := (cCl c a = 33 ∧ cR c 3301 a = .null) ∨ (cCl c a = 31 ∧ cR c 3100 a = .null) ∨ (cCl c a = 30 ∧ cR c 3000 a = .null) ∨ (cCl c a = 20 ∧ cR c 2000 a = .null)
def live (c : cS) (a : Nat) : Prop := cCl c a ≠ 0 ∧ ¬ raw0 c a
/-- a list that no part has yet -/
def unr (c : cS) (L : Nat) : Prop := ∀ a, (cCl c a = 27 → cR c 2700 a ≠ .ref L) ∧ (cCl c a = 30 → (∃ o, cR c 3000 a = .ref o) → cR c 3003 a ≠ .ref L) ∧ (cCl c a = 32 → cR c 3201 a ≠ .ref L)
/-- made, but not set up yet; or a list that no part has yet, and what it holds -/
def raw (c : cS) (b : Nat × List Value) : Prop := raw0 c b.1 ∨ ((cCl c b.1 = 5890 ∨ cCl c b.1 = 5891) ∧ cLs c b.1 = b.2 ∧ unr c b.1)
theorem raw_0 {c : cS} {a : Nat} {l : List Value} (h : raw c (a, l)) (h1 : cCl c a ≠ 5890) (h2 : cCl c a ≠ 5891) : raw0 c a := by
  rcases h with h | ⟨h, _⟩
  · exact h
  · rcases h with h | h
    · exact absurd h h1
    · exact absurd h h2
theorem nunr_27 {c : cS} {a L : Nat} (h1 : cCl c a = 27) (h2 : cR c 2700 a = .ref L) : ¬ unr c L := fun h => (h a).1 h1 h2
theorem nunr_30 {c : cS} {a L o : Nat} (h1 : cCl c a = 30) (h0 : cR c 3000 a = .ref o) (h2 : cR c 3003 a = .ref L) : ¬ unr c L := fun h => (h a).2.1 h1 ⟨o, h0⟩ h2
theorem nunr_32 {c : cS} {a L : Nat} (h1 : cCl c a = 32) (h2 : cR c 3201 a = .ref L) : ¬ unr c L := fun h => (h a).2.2 h1 h2
def okc (k : Nat) : Bool := k != 0 && (k != 20 && (k != 30 && (k != 31 && k != 33)))
theorem okc_ne {k : Nat} (h : okc k = true) : k ≠ 0 ∧ k ≠ 20 ∧ k ≠ 30 ∧ k ≠ 31 ∧ k ≠ 33 := by
  unfold okc at h
  simpa using h
theorem live_of {c : cS} {a k : Nat} (e : cCl c a = k) (hk : okc k = true) : live c a := by
  obtain ⟨h1, h2, h3, h4, h5⟩ := okc_ne hk
  refine ⟨by rw [e]; exact h1, ?_⟩
  rintro (⟨q, _⟩ | ⟨q, _⟩ | ⟨q, _⟩ | ⟨q, _⟩) <;> rw [e] at q <;> contradiction
theorem live_33 {c : cS} {a o : Nat} (e : cCl c a = 33) (h : cR c 3301 a = .ref o) : live c a := by
  refine ⟨by rw [e]; decide, ?_⟩
  rintro (⟨_, q⟩ | ⟨q, _⟩ | ⟨q, _⟩ | ⟨q, _⟩)
  · rw [h] at q; cases q
  all_goals (rw [e] at q; cases q)
theorem live_31 {c : cS} {a o : Nat} (e : cCl c a = 31) (h : cR c 3100 a = .ref o) : live c a := by
  refine ⟨by rw [e]; decide, ?_⟩
  rintro (⟨q, _⟩ | ⟨_, q⟩ | ⟨q, _⟩ | ⟨q, _⟩)
  · rw [e] at q; cases q
  · rw [h] at q; cases q
  all_goals (rw [e] at q; cases q)
theorem live_30 {c : cS} {a o : Nat} (e : cCl c a = 30) (h : cR c 3000 a = .ref o) : live c a := by
  refine ⟨by rw [e]; decide, ?_⟩
  rintro (⟨q, _⟩ | ⟨q, _⟩ | ⟨_, q⟩ | ⟨q, _⟩)
  · rw [e] at q; cases q
  · rw [e] at q; cases q
  · rw [h] at q; cases q
  · rw [e] at q; cases q
theorem live_20 {c : cS} {a o : Nat} (e : cCl c a = 20) (h : cR c 2000 a = .ref o) : live c a := by
  refine ⟨by rw [e]; decide, ?_⟩
  rintro (⟨q, _⟩ | ⟨q, _⟩ | ⟨q, _⟩ | ⟨_, q⟩)
  · rw [e] at q; cases q
  · rw [e] at q; cases q
  · rw [e] at q; cases q
  · rw [h] at q; cases q
/-- int fields XI, long fields XL, references XR, lists of the tags XC -/
def CH (XI XL XR XC : List Nat) (c c' : cS) : Prop := cNx c ≤ cNx c' ∧ (∀ a, cCl c a ≠ 0 → cCl c' a = cCl c a ∧ cLen c' a = cLen c a) ∧
  (∀ x a, x ∉ XI → live c a → cI c' x a = cI c x a) ∧ (∀ x a, x ∉ XL → live c a → cL c' x a = cL c x a) ∧ (∀ x a, x ∉ XR → live c a → cR c' x a = cR c x a) ∧
  (∀ a, cCl c a ∉ XC → cCl c a ≠ 0 → cLs c' a = cLs c a) ∧ (∀ a j, cCl c a = 6200 → cAL c' a j = cAL c a j) ∧ (BD c → BD c')
def TH (YI YL YA YB : List Nat) (s s' : tS) : Prop := (∀ x, x ∉ YI → tI s' x = tI s x) ∧ (∀ x, x ∉ YL → tL s' x = tL s x) ∧ (∀ x j, x ∉ YA → tA s' x j = tA s x j) ∧ (∀ x j, x ∉ YB → tB s' x j = tB s x j)
section
variable {XI XL XR XC YI YL YA YB : List Nat} {c c' : cS} {s s' : tS}
theorem ch_cl (h : CH XI XL XR XC c c') {a k : Nat} (e : cCl c a = k) (hk : k ≠ 0) : cCl c' a = k := by
  rw [(h.2.1 a (by rw [e]; exact hk)).1, e]
theorem ch_I (h : CH XI XL XR XC c c') {a k x : Nat} (e : cCl c a = k) (hk : okc k = true) (hx : x ∉ XI) : cI c' x a = cI c x a := h.2.2.1 x a hx (live_of e hk)
theorem ch_L (h : CH XI XL XR XC c c') {a k x : Nat} (e : cCl c a = k) (hk : okc k = true) (hx : x ∉ XL) : cL c' x a = cL c x a := h.2.2.2.1 x a hx (live_of e hk)
theorem ch_R (h : CH XI XL XR XC c c') {a k x : Nat} (e : cCl c a = k) (hk : okc k = true) (hx : x ∉ XR) : cR c' x a = cR c x a := h.2.2.2.2.1 x a hx (live_of e hk)
theorem ch_Ls (h : CH XI XL XR XC c c') {a k : Nat} (e : cCl c a = k) (hk : okc k = true) (hx : k ∉ XC) : cLs c' a = cLs c a := h.2.2.2.2.2.1 a (by rw [e]; exact hx) (by rw [e]; exact (okc_ne hk).1)
theorem ch_lid (h : CH XI XL XR XC c c') {L k : Nat} (e : cCl c L = k) (hk : okc k = true) (hx : k ∉ XC) (i : Nat) : lid c' L i = lid c L i := by
  unfold lid; rw [ch_Ls h e hk hx]
theorem th_I (h : TH YI YL YA YB s s') {x : Nat} (hx : x ∉ YI) : tI s' x = tI s x := h.1 x hx
theorem th_A (h : TH YI YL YA YB s s') {x : Nat} (hx : x ∉ YA) (j : Nat) : tA s' x j = tA s x j := h.2.2.1 x j hx
theorem th_B (h : TH YI YL YA YB s s') {x : Nat} (hx : x ∉ YB) (j : Nat) : tB s' x j = tB s x j := h.2.2.2 x j hx
theorem th_cnt (h : TH YI YL YA YB s s') {x : Nat} (hx : x ∉ YI) : cnt s' x = cnt s x := by unfold cnt; rw [th_I h hx]
theorem th_ca (h : TH YI YL YA YB s s') {x : Nat} (hx : x ∉ YA) (j : Nat) : ca s' x j = ca s x j := by unfold ca; rw [th_A h hx]
theorem th_cok (h : TH YI YL YA YB s s') {x b : Nat} (hx : x ∉ YI) : cok s' x b = cok s x b := by unfold cok; rw [th_cnt h hx, th_I h hx]
theorem th_aok (h : TH YI YL YA YB s s') {x k b : Nat} (hx : x ∉ YA) : aok s' x k b = aok s x k b := by unfold aok; rw [th_ca h hx, th_A h hx]
theorem lsr_fr (h : CH XI XL XR XC c c') {L n cl k : Nat} (e : cCl c L = k) (hk : okc k = true) (hx : k ∉ XC) (hcl : cl ≠ 0) (hl : lsr c L n cl) : lsr c' L n cl := by
  obtain ⟨h1, h2⟩ := hl
  refine ⟨by rw [ch_Ls h e hk hx]; exact h1, fun i hi => ?_⟩
  rw [ch_lid h e hk hx, ch_Ls h e hk hx]
  exact ⟨(h2 i hi).1, ch_cl h (h2 i hi).2 hcl⟩
theorem PT_fr (h : CH XI XL XR XC c c') (h1 : dj [1201] XI = true) (h2 : dj [1200] XR = true) {P tl : Nat} {l : List (List Int32)} (hp : PT c P l tl) : PT c' P l tl := by
  obtain ⟨p1, p2, A, p3, p4, p5, p6, p7, p8⟩ := hp
  refine ⟨ch_cl h p1 (by decide), Nat.lt_of_lt_of_le p2 h.1, A, ?_, ch_cl h p4 (by decide), Nat.lt_of_lt_of_le p5 h.1, ?_, ?_, ?_⟩
  · rw [ch_R h p1 (by decide) (dj_not h2 (by simp))]; exact p3
  · rw [(h.2.1 A (by rw [p4]; decide)).2]; exact p6
  · intro i hi; rw [h.2.2.2.2.2.2.1 A i p4]; exact p7 i hi
  · rw [ch_I h p1 (by decide) (dj_not h1 (by simp))]; exact p8
theorem pOK_fr (h : CH XI XL XR XC c c') (ht : TH YI YL YA YB s s') (h1 : dj [1201] XI = true) (h2 : dj [1200] XR = true) (h3 : dj [18, 19] YA = true) (h4 : dj [17] YB = true) {P q : Nat} (hp : pOK c s P q) : pOK c' s' P q := by
  obtain ⟨l, tl, p1, p2, p3, p4, p5, p6, p7⟩ := hp
  refine ⟨l, tl, PT_fr h h1 h2 p1, p2, p3, p4, ?_, ?_, ?_⟩
  · rw [th_A ht (dj_not h3 (by simp))]; exact p5
  · rw [th_A ht (dj_not h3 (by simp))]; exact p6
  · intro i hi; rw [th_B ht (dj_not h4 (by simp))]; exact p7 i hi
theorem rOK_fr (h : CH XI XL XR XC c c') (ht : TH YI YL YA YB s s') (h1 : dj [1201] XI = true) (h2 : dj [1200, 1401] XR = true) (h3 : dj [18, 19, 23] YA = true) (h4 : dj [17, 24] YB = true) (h5 : dj [1400] XL = true) {L of cl : Nat} (hcl : okc cl = true) (h6 : cl ∉ XC) (hp : rOK c s L of cl) : rOK c' s' L of cl := by
  obtain ⟨p1, p2, p3, p4⟩ := hp
  have a1 : dj [1200] XR = true := by unfold dj at h2 ⊢; simp_all
  have a2 : dj [18, 19] YA = true := by unfold dj at h3 ⊢; simp_all
  have a3 : dj [17] YB = true := by unfold dj at h4 ⊢; simp_all
  refine ⟨ch_cl h p1 (okc_ne hcl).1, ?_, ?_, ?_⟩
  · rw [th_aok ht (dj_not h3 (by simp))]; exact p2
  · rw [th_ca ht (dj_not h3 (by simp))]; exact lsr_fr h p1 hcl h6 (by decide) p3
  · rw [th_ca ht (dj_not h3 (by simp))]
    intro i hi
    have hc := (p3.2 i hi).2
    rw [ch_lid h p1 hcl h6, ch_L h hc (by decide) (dj_not h5 (by simp)), ch_R h hc (by decide) (dj_not h2 (by simp)), th_B ht (dj_not h4 (by simp))]
    obtain ⟨q1, P, q2, q3⟩ := p4 i hi
    exact ⟨q1, P, q2, pOK_fr h ht h1 a1 a2 a3 q3⟩
end
