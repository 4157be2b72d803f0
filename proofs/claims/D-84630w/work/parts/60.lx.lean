set_option maxRecDepth 100000
set_option maxHeartbeats 1000000
/-! D10: both go to the next word -/
def sv (a b : Int32) : Prop := (a = 14909 ∧ b = 256) ∨ (a = 15677 ∧ b = 257) ∨ (a = b ∧ a ∈ sgs)
theorem sv_c {a b x : Int32} (h : sv a b) (hx : x ∈ sgs) : (a = x) = (b = x) := by
  rcases h with ⟨h1, h2⟩ | ⟨h1, h2⟩ | ⟨h1, h2⟩
  · rw [h1, h2]
    have : ∀ x ∈ sgs, ((14909 : Int32) = x ↔ (256 : Int32) = x) := by decide
    exact propext (this x hx)
  · rw [h1, h2]
    have : ∀ x ∈ sgs, ((15677 : Int32) = x ↔ (257 : Int32) = x) := by decide
    exact propext (this x hx)
  · rw [h1]
theorem sv_b {a b : Int32} (h : sv a b) : (a = 14909) = (b = 256) := by
  rcases h with ⟨h1, h2⟩ | ⟨h1, h2⟩ | ⟨h1, h2⟩
  · simp [h1, h2]
  · rw [h1, h2]; decide
  · rw [← h1]
    have : ∀ x ∈ sgs, (x = (14909 : Int32) ↔ x = (256 : Int32)) := by decide
    exact propext (this a h2)
theorem sv_a {a b : Int32} (h : sv a b) : (a = 15677) = (b = 257) := by
  rcases h with ⟨h1, h2⟩ | ⟨h1, h2⟩ | ⟨h1, h2⟩
  · rw [h1, h2]; decide
  · simp [h1, h2]
  · rw [← h1]
    have : ∀ x ∈ sgs, (x = (15677 : Int32) ↔ x = (257 : Int32)) := by decide
    exact propext (this a h2)
/-- a pattern of the component: its steps, its tail -/
def PT (c : cS) (P : Nat) (l : List (List Int32)) (tl : Nat) : Prop := cCl c P = 12 ∧ P < cNx c ∧ ∃ A, cR c 1200 P = .ref A ∧ cCl c A = 6200 ∧ A < cNx c ∧ cLen c A = l.length ∧ (∀ i, i < l.length → cAL c A i = p8 (nthD [] l i)) ∧ cI c 1201 P = Int32.ofNat tl
/-- the steps of a pattern are names of at most six signs -/
def gs (l : List (List Int32)) : Prop := ∀ x ∈ l, gl x ∧ 0 < x.length
def LXb (χ : Nat → Int32) (n w t m ks st p : Nat) (c : cS) (s : tS) : Prop := WX χ n w t c ∧ TX χ n s ∧ KX w ks c ∧ (cR c 1009 w = .ref st ∧ cCl c st = 6009 ∧ cLen c st = 6) ∧ (w < cNx c ∧ st < cNx c ∧ t < cNx c ∧ ks < cNx c) ∧ (m ≤ 5 ∧ cI c 1002 w = Int32.ofNat m ∧ tI s 16 = Int32.ofNat m) ∧ (p ≤ n ∧ cI c 1003 w = Int32.ofNat p ∧ tI s 10 = Int32.ofNat p)
def LW (n w m p f : Nat) (c : cS) (s : tS) : Prop :=
  (tI s 8 = 0 ∧ f = n ∧ p = n) ∨
  (tI s 8 = 1 ∧ f < p ∧ nm (cL c 1007 w) (tL s 12)) ∨
  (tI s 8 = 2 ∧ f < p ∧ ∃ j, j < 23 ∧ cI c 1006 w = Int32.ofNat j ∧ tI s 11 = Int32.ofNat j ∧ p = f + (kwAt j).length) ∨
  (tI s 8 = 3 ∧ f < p ∧ cI c 1006 w = tI s 11) ∨
  (tI s 8 = 4 ∧ f < p ∧ ∃ P l tl, cR c 1008 w = .ref P ∧ PT c P l tl ∧ gs l ∧ l.length ≤ m ∧ tl < 3 ∧ tI s 14 = Int32.ofNat l.length ∧ tI s 15 = Int32.ofNat tl ∧ ∀ i, i < l.length → tB s 13 i = p37 (nthD [] l i)) ∨
  (tI s 8 = 5 ∧ f < p ∧ sv (cI c 1006 w) (tI s 11))
def LX (χ : Nat → Int32) (n w t m ks st p f : Nat) (c : cS) (s : tS) : Prop := LXb χ n w t m ks st p c s ∧ f ≤ p ∧ cI c 1005 w = Int32.ofNat f ∧ tI s 9 = Int32.ofNat f ∧ cI c 1004 w = tI s 8 ∧ LW n w m p f c s
/-- what a step of the words leaves -/
def LFc (st : Nat) (c c' : cS) : Prop := cNx c ≤ cNx c' ∧ cNx c' ≤ cNx c + 2 ∧ cSl c ≤ cSl c' ∧ cSl c' ≤ cSl c + 8 ∧ (∀ x a, x ∉ [1003, 1004, 1005, 1006, 1201] → cI c' x a = cI c x a) ∧ (∀ a, a < cNx c → cI c' 1201 a = cI c 1201 a) ∧
  (∀ x a, x ≠ 1007 → cL c' x a = cL c x a) ∧ (∀ x a, x ≠ 1008 → x ≠ 1200 → cR c' x a = cR c x a) ∧ (∀ a, a < cNx c → cR c' 1200 a = cR c 1200 a) ∧
  cAI c' = cAI c ∧ cAR c' = cAR c ∧ cLs c' = cLs c ∧ cCap c' = cCap c ∧ (∀ a, a < cNx c → cLen c' a = cLen c a ∧ cCl c' a = cCl c a ∧ (a ≠ st → ∀ j, cAL c' a j = cAL c a j)) ∧ (∀ a, cNx c ≤ a → a < cNx c' → cCl c' a = 12 ∨ cCl c' a = 6200)
def LFt (s s' : tS) : Prop := (∀ x, x ∉ [8, 9, 10, 11, 14, 15] → tI s' x = tI s x) ∧ (∀ x, x ≠ 12 → tL s' x = tL s x) ∧ tA s' = tA s ∧ (∀ x j, x ≠ 13 → tB s' x j = tB s x j)
theorem bV_id {X : Type} {r : mR X} {h : X} (e : r = some (.inl none, h)) : (bV r fun h => some (.inl none, h)) = some (.inl none, h) := by rw [e]; rfl
theorem bV_idx {X : Type} {r : mR X} {h : X} {v : Value} (e : r = some (.inr v, h)) : (bV r fun h => some (.inl none, h)) = some (.inr v, h) := by rw [e]; rfl
def c1H (c : cS) (w f : Nat) : cS := csI (csI c 1003 w (Int32.ofNat f)) 1005 w (Int32.ofNat f)
theorem c_next0 {χ : Nat → Int32} {n w t p f : Nat} (d : Nat) {c : cS} (hW : WX χ n w t c) (hp : p ≤ n) (hat : cI c 1003 w = Int32.ofNat p) (hf : f = xSk χ n n false p) :
    cC (d + 20) 1001 [eR (.ref w)] c = (if χ f = -1 then some (.inl none, csI (c1H c w f) 1004 w 0) else if aL (χ f) = true then (bV (cC (d + 19) 1005 [eR (.ref w)] (c1H c w f)) fun h => some (.inl none, h)) else if aD (χ f) = true then (bV (cC (d + 19) 1008 [eR (.ref w)] (c1H c w f)) fun h => some (.inl none, h)) else if χ f = 47 then (bV (cC (d + 19) 1009 [eR (.ref w)] (c1H c w f)) fun h => some (.inl none, h)) else (bV (cC (d + 19) 1010 [eR (.ref w), eI (χ f)] (c1H c w f)) fun h => some (.inl none, h))) := by
  have hW0 := hW
  obtain ⟨h1, h2, h3, h4, h5, h6, h7, h8⟩ := hW
  have hb := c_blanks (χ := χ) (n := n) (t := t) (d + 17) n false p c hW0 (by omega) hp hat
  rw [← hf, bi_f] at hb
  have hfl := xSk_le (χ := χ) n false p hp
  rw [← hf] at hfl
  have hs := c_see (χ := χ) (n := n) (t := t) (d + 18) (c := c1H c w f) (WX_I (by decide) (WX_I (by decide) hW0)) (k := f) (by omega)
  rw [kX10_next, r_cck, if_pos h1, uX10_next, kX10_blanks, r_cck, if_pos h1, uX10_blanks, hb]
  simp only [h1, rC, bB, Nat.reduceDiv, Nat.reduceLeDiff, Nat.reduceLT,  eq_self, if_true, if_false, true_and, and_true, false_and, and_false, or_true, true_or, or_false, false_or, reduceIte, reduceCtorEq, Nat.reduceEqDiff, not_true_eq_false, not_false_eq_true, r_misN, r_misR, gC]
  change (bI (cC (d + 19) 1003 [eR (.ref w), eI (Int32.ofNat f)] (c1H c w f)) _) = _
  rw [hs]
  simp only [rC, bB, Nat.reduceDiv, Nat.reduceLeDiff, Nat.reduceLT,  eq_self, if_true, if_false, true_and, and_true, false_and, and_false, or_true, true_or, or_false, false_or, reduceIte, reduceCtorEq, Nat.reduceEqDiff, not_true_eq_false, not_false_eq_true, r_misN, r_misR, c_isL, c_isD]
  have hc1 : cCl (c1H c w f) w = 10 := h1
  simp only [hc1, rC, bB, Nat.reduceDiv, Nat.reduceLeDiff, Nat.reduceLT,  eq_self, if_true, if_false, true_and, and_true, false_and, and_false, or_true, true_or, or_false, false_or, reduceIte, reduceCtorEq, Nat.reduceEqDiff, not_true_eq_false, not_false_eq_true, r_misN, r_misR]
  by_cases q1 : χ f = -1
  · rw [if_pos q1, if_pos q1]
  · rw [if_neg q1, if_neg q1]
    cases q2 : aL (χ f)
    · simp only [bi_f, if_true, Bool.false_eq_true, if_false]
      cases q3 : aD (χ f)
      · simp only [bi_f, if_true, Bool.false_eq_true, if_false]
      · simp only [bi_t, show ((1 : Int32) = 0) = False from by decide, if_true, if_false]
    · simp only [bi_t, show ((1 : Int32) = 0) = False from by decide, if_true, if_false]
def t1H (s : tS) (f : Nat) : tS := tsI (tsI s 10 (Int32.ofNat f)) 9 (Int32.ofNat f)
theorem t_next0 {χ : Nat → Int32} {n p f : Nat} (d : Nat) {s : tS} (hX : TX χ n s) (hfi : tI s 6 = 0) (hp : p ≤ n) (hto : tI s 10 = Int32.ofNat p) (hf : f = xSk χ n n false p) :
    cT (d + 20) 6 [eR (.ref 0)] s = (if χ f = -1 then some (.inl none, tsI (t1H s f) 8 0) else if aL (χ f) = true then (bV (cT (d + 19) 10 [eR (.ref 0)] (t1H s f)) fun h => some (.inl none, h)) else if aD (χ f) = true then (bV (cT (d + 19) 17 [eR (.ref 0)] (t1H s f)) fun h => some (.inl none, h)) else if χ f = 47 then (bV (cT (d + 19) 18 [eR (.ref 0)] (t1H s f)) fun h => some (.inl none, h)) else (bV (cT (d + 19) 19 [eR (.ref 0), eI (χ f)] (t1H s f)) fun h => some (.inl none, h))) := by
  have hn := hX.2.1
  have hfl := xSk_le (χ := χ) n false p hp
  rw [← hf] at hfl
  have hb := (t_blanks (χ := χ) (n := n) (d + 18) n).1 p s hX (by omega) hp hto
  rw [← hf] at hb
  have hs := t_at (χ := χ) (n := n) (d + 18) (s := t1H s f) (TX_I (by decide) (TX_I (by decide) hX)) (k := f) (by omega)
  rw [kX7_next, uX7_next, t_fine]
  simp only [hfi, decide_true, bi_t, rT, bB, eq_self, if_true, if_false, true_and, and_true, false_and, and_false, or_true, true_or, or_false, false_or, reduceIte, Nat.reduceEqDiff, not_true_eq_false, not_false_eq_true, show ((1 : Int32) = 0) = False from by decide]
  rw [hb, uX7_next_6]
  simp only [rT, bB, eq_self, if_true, if_false, true_and, and_true, false_and, and_false, or_true, true_or, or_false, false_or, reduceIte, Nat.reduceEqDiff, not_true_eq_false, not_false_eq_true, gT]
  change (bI (cT (d + 19) 8 [eR (.ref 0), eI (Int32.ofNat f)] (t1H s f)) _) = _
  rw [hs]
  simp only [rT, bB, eq_self, if_true, if_false, true_and, and_true, false_and, and_false, or_true, true_or, or_false, false_or, reduceIte, Nat.reduceEqDiff, not_true_eq_false, not_false_eq_true, t_isL, t_isD]
  by_cases q1 : χ f = -1
  · rw [if_pos q1, if_pos q1]
  · rw [if_neg q1, if_neg q1]
    cases q2 : aL (χ f)
    · simp only [bi_f, if_true, Bool.false_eq_true, if_false]
      cases q3 : aD (χ f)
      · simp only [bi_f, if_true, Bool.false_eq_true, if_false]
      · simp only [bi_t, show ((1 : Int32) = 0) = False from by decide, if_true, if_false]
    · simp only [bi_t, show ((1 : Int32) = 0) = False from by decide, if_true, if_false]
