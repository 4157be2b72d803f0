set_option maxRecDepth 100000
set_option maxHeartbeats 1000000
/-! D2: the component's words -/
def WX (χ : Nat → Int32) (n w t : Nat) (c : cS) : Prop := cCl c w = 10 ∧ cI c 1001 w = Int32.ofNat n ∧ cR c 1000 w = .ref t ∧ cCl c t = 5100 ∧ cLen c t = 3000 ∧ n ≤ 3000 ∧ (∀ k, k < n → cAI c t k &&& 255 = χ k) ∧ (∀ k, n ≤ k → χ k = -1)
theorem WX_I {χ : Nat → Int32} {n w t x a : Nat} {c : cS} {v : Int32} (hx : x ≠ 1001) (h : WX χ n w t c) : WX χ n w t (csI c x a v) := by
  obtain ⟨h1, h2, h3, h4, h5, h6, h7, h8⟩ := h
  exact ⟨h1, by rw [g_I_I, if_neg (fun q => hx q.1.symm)]; exact h2, h3, h4, h5, h6, h7, h8⟩
theorem WX_L {χ : Nat → Int32} {n w t x a : Nat} {c : cS} {v : Int64} (h : WX χ n w t c) : WX χ n w t (csL c x a v) := h
theorem WX_R {χ : Nat → Int32} {n w t x a : Nat} {c : cS} {v : Value} (hx : x ≠ 1000) (h : WX χ n w t c) : WX χ n w t (csR c x a v) := by
  obtain ⟨h1, h2, h3, h4, h5, h6, h7, h8⟩ := h
  exact ⟨h1, h2, by rw [g_R_R, if_neg (fun q => hx q.1.symm)]; exact h3, h4, h5, h6, h7, h8⟩
theorem WX_AL {χ : Nat → Int32} {n w t a j : Nat} {c : cS} {v : Int64} (h : WX χ n w t c) : WX χ n w t (csAL c a j v) := h
theorem self_I (h : cS) (x a : Nat) : csI h x a (cI h x a) = h := by
  unfold csI cI
  congr 1
  funext y b
  by_cases e : y = x ∧ b = a
  · rw [if_pos e, e.1, e.2]
  · rw [if_neg e]
theorem self_L (h : cS) (x a : Nat) : csL h x a (cL h x a) = h := by
  unfold csL cL
  congr 2
  funext y b
  by_cases e : y = x ∧ b = a
  · rw [if_pos e, e.1, e.2]
  · rw [if_neg e]
theorem c_see {χ : Nat → Int32} {n w t k : Nat} {c : cS} (d : Nat) (hW : WX χ n w t c) (hk : k < 2147483648) : cC (d + 1) 1003 [eR (.ref w), eI (Int32.ofNat k)] c = some (.inl (some (eI (χ k))), c) := by
  obtain ⟨h1, h2, h3, h4, h5, h6, h7, h8⟩ := hW
  simp only [kX10_see, uX10_see, h1, h2, h3, rC, bB, Nat.reduceDiv, Nat.reduceLeDiff, Nat.reduceLT,  eq_self, if_true, if_false, true_and, and_true, false_and, and_false, or_true, true_or, or_false, false_or, reduceIte, reduceCtorEq, Nat.reduceEqDiff, not_true_eq_false, not_false_eq_true, r_misN, r_misR]
  simp only [z_lt hk (show n < 2147483648 by omega)]
  by_cases q : k < n
  · rw [if_pos q, caB_of (by rw [h4]; rfl) (by omega) hk, h7 k q]
  · rw [if_neg q, h8 k (by omega)]
theorem c_isL (d : Nat) (x : Int32) (c : cS) : cC (d + 1) 1004 [eI x] c = some (.inl (some (eI (bi (aL x)))), c) := by
  rw [kX10_isLetter, uX10_isLetter]
  unfold aL bi
  by_cases h1 : x < 97
  · simp [h1]
  · by_cases h2 : 122 < x <;> simp [h1, h2]
theorem c_isD (d : Nat) (x : Int32) (c : cS) : cC (d + 1) 1006 [eI x] c = some (.inl (some (eI (bi (aD x)))), c) := by
  rw [kX10_isDigit, uX10_isDigit]
  unfold aD bi
  by_cases h1 : x < 48
  · simp [h1]
  · by_cases h2 : 57 < x <;> simp [h1, h2]
/-- over blanks and notes -/
def xSk (χ : Nat → Int32) (n : Nat) : Nat → Bool → Nat → Nat
  | 0, _, p => p
  | f + 1, b, p => if p < n ∧ (b = true ∨ χ p = 32 ∨ χ p = 10 ∨ χ p = 35) then xSk χ n f (decide (χ p = 35) || (b && !decide (χ p = 10))) (p + 1) else p
theorem xSk_le {χ : Nat → Int32} {n : Nat} : ∀ f b p, p ≤ n → p ≤ xSk χ n f b p ∧ xSk χ n f b p ≤ n := by
  intro f
  induction f with
  | zero => intro b p h; exact ⟨Nat.le_refl _, h⟩
  | succ f ih =>
    intro b p h
    unfold xSk
    split
    · rename_i q
      have := ih (decide (χ p = 35) || (b && !decide (χ p = 10))) (p + 1) (by omega)
      omega
    · exact ⟨Nat.le_refl _, h⟩
theorem c_blanks {χ : Nat → Int32} {n w t : Nat} (d : Nat) : ∀ (f : Nat) (b : Bool) (p : Nat) (c : cS), WX χ n w t c → n ≤ p + f → p ≤ n → cI c 1003 w = Int32.ofNat p → fX10_blanks_2 (cC (d + 1)) (.ref w) (bi b) c = some (.inl none, csI c 1003 w (Int32.ofNat (xSk χ n f b p))) := by
  intro f
  induction f with
  | zero =>
    intro b p c hW hf hp hat
    obtain ⟨h1, h2, h3, h4, h5, h6, h7, h8⟩ := hW
    rw [uX10_blanks_2]
    simp only [h1, h2, hat, rC, bB, Nat.reduceDiv, Nat.reduceLeDiff, Nat.reduceLT,  eq_self, if_true, if_false, true_and, and_true, false_and, and_false, or_true, true_or, or_false, false_or, reduceIte, reduceCtorEq, Nat.reduceEqDiff, not_true_eq_false, not_false_eq_true, r_misN, r_misR]
    simp only [z_lt (show p < 2147483648 by omega) (show n < 2147483648 by omega)]
    rw [if_neg (by omega)]
    simp only [xSk]
    rw [← hat, self_I]
  | succ f ih =>
    intro b p c hW hf hp hat
    have hW0 := hW
    obtain ⟨h1, h2, h3, h4, h5, h6, h7, h8⟩ := hW
    have hs := c_see d hW0 (k := p) (by omega)
    rw [uX10_blanks_2]
    simp only [h1, h2, hat, hs, rC, bB, Nat.reduceDiv, Nat.reduceLeDiff, Nat.reduceLT,  eq_self, if_true, if_false, true_and, and_true, false_and, and_false, or_true, true_or, or_false, false_or, reduceIte, reduceCtorEq, Nat.reduceEqDiff, not_true_eq_false, not_false_eq_true, r_misN, r_misR]
    simp only [z_lt (show p < 2147483648 by omega) (show n < 2147483648 by omega)]
    by_cases hpn : p < n
    · rw [if_pos hpn]
      have hih := ih (decide (χ p = 35) || (b && !decide (χ p = 10))) (p + 1) (csI c 1003 w (Int32.ofNat (p + 1))) (WX_I (by decide) hW0) (by omega) (by omega) (by rw [g_I_I, if_pos ⟨rfl, rfl⟩])
      rw [o_I] at hih
      have h27 : fX10_blanks_27 (cC (d + 1)) (.ref w) (bi b) c = some (.inl none, csI c 1003 w (Int32.ofNat (xSk χ n f (decide (χ p = 35) || (b && !decide (χ p = 10))) (p + 1)))) := by
        rw [uX10_blanks_27]
        simp only [h1, hat, hs, rC, bB, Nat.reduceDiv, Nat.reduceLeDiff, Nat.reduceLT,  eq_self, if_true, if_false, true_and, and_true, false_and, and_false, or_true, true_or, or_false, false_or, reduceIte, reduceCtorEq, Nat.reduceEqDiff, not_true_eq_false, not_false_eq_true, r_misN, r_misR]
        have h44 : ∀ s, fX10_blanks_44 (cC (d + 1)) (.ref w) s c = fX10_blanks_2 (cC (d + 1)) (.ref w) s (csI c 1003 w (Int32.ofNat (p + 1))) := by
          intro s
          rw [uX10_blanks_44]
          simp only [h1, hat, rC, bB, Nat.reduceDiv, Nat.reduceLeDiff, Nat.reduceLT,  eq_self, if_true, if_false, true_and, and_true, false_and, and_false, or_true, true_or, or_false, false_or, reduceIte, reduceCtorEq, Nat.reduceEqDiff, not_true_eq_false, not_false_eq_true, r_misN, r_misR]
          rw [show (1 : Int32) = Int32.ofNat 1 from rfl, z_add]
        simp only [h44]
        cases b <;> by_cases q1 : χ p = 35 <;> by_cases q2 : χ p = 10 <;> simp only [q1, q2, bi_t, bi_f, decide_true, decide_false, Bool.true_or, Bool.false_or, Bool.or_false, Bool.not_true, Bool.not_false, Bool.and_true, Bool.and_false, Bool.true_and, Bool.false_and, if_true, if_false] at hih ⊢ <;> first | exact hih | simp_all
      cases b
      · by_cases q1 : χ p = 32
        · simp only [bi_f, if_true, q1]
          rw [bi_f] at h27
          rw [h27]
          simp [xSk, hpn, q1]
        · by_cases q2 : χ p = 10
          · rw [bi_f] at h27
            simp only [bi_f, if_true, q1, if_false, q2, h27]
            simp [xSk, hpn, q2]
          · by_cases q3 : χ p = 35
            · rw [bi_f] at h27
              simp only [bi_f, if_true, q1, if_false, q2, q3, h27]
              simp [xSk, hpn, q3]
            · simp only [bi_f, if_true, q1, if_false, q2, q3]
              simp only [xSk, q1, q2, q3, hpn, or_false, and_false, if_false, Bool.false_eq_true]
              rw [← hat, self_I]
      · simp only [bi_t, show ((1 : Int32) = 0) = False from by decide, if_false]
        rw [bi_t] at h27
        rw [h27]
        simp [xSk, hpn]
    · rw [if_neg hpn]
      simp only [xSk, hpn, false_and, if_false]
      rw [← hat, self_I]
/-- the signs of a segment -/
def xSg (χ : Nat → Int32) (p q : Nat) : List Int32 := (List.range (q - p)).map (fun i => χ (p + i))
theorem xSg_nil (χ : Nat → Int32) (p : Nat) : xSg χ p p = [] := by simp [xSg]
theorem xSg_snoc (χ : Nat → Int32) {p q : Nat} (h : p ≤ q) : xSg χ p (q + 1) = xSg χ p q ++ [χ q] := by
  unfold xSg
  rw [show q + 1 - p = (q - p) + 1 from by omega, List.range_succ, List.map_append]
  congr 1
  simp only [List.map_cons, List.map_nil]
  rw [show p + (q - p) = q from by omega]
theorem xSg_len (χ : Nat → Int32) (p q : Nat) : (xSg χ p q).length = q - p := by simp [xSg]
/-- where a word ends -/
def xW (χ : Nat → Int32) : Nat → Nat → Nat
  | 0, p => p
  | f + 1, p => if aA (χ p) = true then xW χ f (p + 1) else p
theorem aA_m1 : aA (-1) = false := by decide
theorem xW_le {χ : Nat → Int32} {n : Nat} (h8 : ∀ k, n ≤ k → χ k = -1) : ∀ f p, p ≤ n → p ≤ xW χ f p ∧ xW χ f p ≤ n := by
  intro f
  induction f with
  | zero => intro p h; exact ⟨Nat.le_refl _, h⟩
  | succ f ih =>
    intro p h
    unfold xW
    split
    · rename_i q
      have : p < n := by
        apply Nat.lt_of_not_le
        intro r
        rw [h8 p r, aA_m1] at q
        cases q
      have := ih (p + 1) (by omega)
      omega
    · exact ⟨Nat.le_refl _, h⟩
theorem xW_end {χ : Nat → Int32} {n : Nat} (h8 : ∀ k, n ≤ k → χ k = -1) : ∀ f p, n ≤ p + f → aA (χ (xW χ f p)) = false := by
  intro f
  induction f with
  | zero => intro p h; rw [xW, h8 p (by omega)]; exact aA_m1
  | succ f ih =>
    intro p h
    unfold xW
    split
    · exact ih (p + 1) (by omega)
    · rename_i q; simpa using q
theorem xW_all {χ : Nat → Int32} : ∀ f p k, p ≤ k → k < xW χ f p → aA (χ k) = true := by
  intro f
  induction f with
  | zero => intro p k h1 h2; rw [xW] at h2; omega
  | succ f ih =>
    intro p k h1 h2
    unfold xW at h2
    split at h2
    · rename_i q
      by_cases e : k = p
      · rw [e]; exact q
      · exact ih (p + 1) k (by omega) h2
    · omega
