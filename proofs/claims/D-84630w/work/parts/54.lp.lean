set_option maxRecDepth 100000
set_option maxHeartbeats 1000000
/-! D4: the component's numbers, signs, patterns -/
def nX (v : Int64) (x : Int32) : Int64 := if 2147483647 < v then v else ((10 * v) + x.toInt64) - 48
def xN (χ : Nat → Int32) : Nat → Nat → Int64 → Nat × Int64
  | 0, p, v => (p, v)
  | g + 1, p, v => if aD (χ p) = true then xN χ g (p + 1) (nX v (χ p)) else (p, v)
theorem aD_m1 : aD (-1) = false := by decide
theorem xN_le {χ : Nat → Int32} {n : Nat} (h8 : ∀ k, n ≤ k → χ k = -1) : ∀ g p v, p ≤ n → p ≤ (xN χ g p v).1 ∧ (xN χ g p v).1 ≤ n := by
  intro g
  induction g with
  | zero => intro p v h; exact ⟨Nat.le_refl _, h⟩
  | succ g ih =>
    intro p v h
    unfold xN
    split
    · rename_i q
      have : p < n := by
        apply Nat.lt_of_not_le
        intro r
        rw [h8 p r, aD_m1] at q
        cases q
      have := ih (p + 1) (nX v (χ p)) (by omega)
      omega
    · exact ⟨Nat.le_refl _, h⟩
theorem xN_end {χ : Nat → Int32} {n : Nat} (h8 : ∀ k, n ≤ k → χ k = -1) : ∀ g p v, n ≤ p + g → aD (χ (xN χ g p v).1) = false := by
  intro g
  induction g with
  | zero => intro p v h; rw [xN, h8 p (by omega)]; exact aD_m1
  | succ g ih =>
    intro p v h
    unfold xN
    split
    · exact ih (p + 1) _ (by omega)
    · rename_i q; simpa using q
theorem c_nloop {χ : Nat → Int32} {n w t : Nat} (d : Nat) : ∀ (g p : Nat) (v : Int64) (c : cS), WX χ n w t c → n ≤ p + g → p ≤ n → cI c 1003 w = Int32.ofNat p →
    fX10_number_5 (cC (d + 1)) (.ref w) v c = fX10_number_5 (cC (d + 1)) (.ref w) (xN χ g p v).2 (csI c 1003 w (Int32.ofNat (xN χ g p v).1)) := by
  intro g
  induction g with
  | zero =>
    intro p v c hW hf hp hat
    simp only [xN]
    rw [← hat, self_I]
  | succ g ih =>
    intro p v c hW hf hp hat
    by_cases ha : aD (χ p) = true
    · have hW0 := hW
      obtain ⟨h1, h2, h3, h4, h5, h6, h7, h8⟩ := hW
      have hpn : p < n := by
        apply Nat.lt_of_not_le
        intro r
        rw [h8 p r, aD_m1] at ha
        cases ha
      have hs := c_see d hW0 (k := p) (by omega)
      have e1 : ∀ u, fX10_number_28 (cC (d + 1)) (.ref w) u c = fX10_number_5 (cC (d + 1)) (.ref w) u (csI c 1003 w (Int32.ofNat (p + 1))) := by
        intro u
        rw [uX10_number_28]
        simp only [h1, hat, rC, bB, Nat.reduceDiv, Nat.reduceLeDiff, Nat.reduceLT,  eq_self, if_true, if_false, true_and, and_true, false_and, and_false, or_true, true_or, or_false, false_or, reduceIte, reduceCtorEq, Nat.reduceEqDiff, not_true_eq_false, not_false_eq_true, r_misN, r_misR]
        rw [show (1 : Int32) = Int32.ofNat 1 from rfl, z_add]
      have e2 : fX10_number_5 (cC (d + 1)) (.ref w) v c = fX10_number_5 (cC (d + 1)) (.ref w) (nX v (χ p)) (csI c 1003 w (Int32.ofNat (p + 1))) := by
        rw [uX10_number_5]
        simp only [h1, hat, hs, c_isD, ha, bi_t, e1, rC, bB, Nat.reduceDiv, Nat.reduceLeDiff, Nat.reduceLT,  eq_self, if_true, if_false, true_and, and_true, false_and, and_false, or_true, true_or, or_false, false_or, reduceIte, reduceCtorEq, Nat.reduceEqDiff, not_true_eq_false, not_false_eq_true, r_misN, r_misR, lg_cmp_gt, show ((1 : Int32) = 0) = False from by decide]
        unfold nX
        split <;> rfl
      rw [e2, ih (p + 1) _ _ (WX_I (by decide) hW0) (by omega) (by omega) (by simp [gC])]
      have e3 : xN χ (g + 1) p v = xN χ g (p + 1) (nX v (χ p)) := by simp [xN, ha]
      rw [e3, o_I]
    · have e3 : xN χ (g + 1) p v = (p, v) := by simp [xN, ha]
      rw [e3]
      simp only
      rw [← hat, self_I]
theorem c_number {χ : Nat → Int32} {n w t f : Nat} (d : Nat) {c : cS} (hW : WX χ n w t c) (hl : w < cNx c) (hf : f ≤ n) (hat : cI c 1003 w = Int32.ofNat f) (hfr : cI c 1005 w = Int32.ofNat f) :
    cC (d + 15) 1008 [eR (.ref w)] c = (if 2147483647 < (xN χ n f 0).2 then some (.inr (.ref (cNx c)), wH (csI (csI c 1004 w 3) 1003 w (Int32.ofNat (xN χ n f 0).1)) 1 (Int32.ofNat f)) else some (.inl none, csI (csI (csI c 1004 w 3) 1003 w (Int32.ofNat (xN χ n f 0).1)) 1006 w (xN χ n f 0).2.toInt32)) := by
  have hW0 := hW
  obtain ⟨h1, h2, h3, h4, h5, h6, h7, h8⟩ := hW
  have hp := xN_le (χ := χ) h8 n f 0 hf
  simp only [kX10_number, uX10_number, h1, rC, bB, Nat.reduceDiv, Nat.reduceLeDiff, Nat.reduceLT,  eq_self, if_true, if_false, true_and, and_true, false_and, and_false, or_true, true_or, or_false, false_or, reduceIte, reduceCtorEq, Nat.reduceEqDiff, not_true_eq_false, not_false_eq_true, r_misN, r_misR]
  rw [c_nloop (d + 13) n f 0 (csI c 1004 w 3) (WX_I (by decide) hW0) (by omega) hf (by simp [gC, hat])]
  have he := xN_end (χ := χ) h8 n f 0 (by omega)
  generalize xN χ n f 0 = r at hp he ⊢
  obtain ⟨p, v⟩ := r
  simp only at hp he ⊢
  have hs := c_see (χ := χ) (n := n) (t := t) (d + 13) (c := csI (csI c 1004 w 3) 1003 w (Int32.ofNat p)) (WX_I (by decide) (WX_I (by decide) hW0)) (k := p) (by omega)
  rw [uX10_number_5]
  simp only [h1, hs, c_isD, he, bi_f, hfr, rC, bB, Nat.reduceDiv, Nat.reduceLeDiff, Nat.reduceLT,  eq_self, if_true, if_false, true_and, and_true, false_and, and_false, or_true, true_or, or_false, false_or, reduceIte, reduceCtorEq, Nat.reduceEqDiff, not_true_eq_false, not_false_eq_true, r_misN, r_misR, gC, lg_cmp_gt]
  by_cases q : 2147483647 < v
  · rw [if_pos q, if_pos q]
    have := c_throw (d + 1) (c := csI (csI c 1004 w 3) 1003 w (Int32.ofNat p)) (w := w) h1 hl 1
    simp only [gC] at this
    rw [this]
    simp [hfr]
  · rw [if_neg q, if_neg q]
/-! signs -/
def sgs : List Int32 := [123, 125, 40, 41, 91, 93, 44, 59, 58, 61, 46, 43, 45, 42, 60]
theorem c_idx {k : Nat} (hk : k < 256) : (tFind k (nthD [] cStrs 23) 0 < 0) = (Int32.ofNat k ∉ sgs) := by
  have h : ∀ k, k < 256 → (tFind k (nthD [] cStrs 23) 0 < 0 ↔ Int32.ofNat k ∉ sgs) := by decide +kernel
  exact propext (h k hk)
def two (x y : Int32) : Bool := decide (y = 61) && (decide (x = 58) || decide (x = 61))
theorem c_sign {χ : Nat → Int32} {n w t f k : Nat} (d : Nat) {c : cS} (hW : WX χ n w t c) (hl : w < cNx c) (hf : f < n) (hat : cI c 1003 w = Int32.ofNat f) (hfr : cI c 1005 w = Int32.ofNat f) (hk : k < 256) :
    cC (d + 15) 1010 [eR (.ref w), eI (Int32.ofNat k)] c = (if Int32.ofNat k ∉ sgs then some (.inr (.ref (cNx c)), wH (csI c 1004 w 5) 1 (Int32.ofNat f)) else some (.inl none, csI (csI (csI c 1004 w 5) 1006 w (if two (Int32.ofNat k) (χ (f + 1)) = true then 256 * Int32.ofNat k + 61 else Int32.ofNat k)) 1003 w (Int32.ofNat (if two (Int32.ofNat k) (χ (f + 1)) = true then f + 2 else f + 1)))) := by
  have hW0 := hW
  obtain ⟨h1, h2, h3, h4, h5, h6, h7, h8⟩ := hW
  have hs := c_see (χ := χ) (n := n) (t := t) (d + 13) (c := csI c 1004 w 5) (WX_I (by decide) hW0) (k := f + 1) (by omega)
  have e22 : ∀ (y : Int32) (b : Bool), (b = true → y = 61) → fX10_sign_22 (cC (d + 14)) (.ref w) (Int32.ofNat k) y (bi b) (csI c 1004 w 5) = (if Int32.ofNat k ∉ sgs then some (.inr (.ref (cNx c)), wH (csI c 1004 w 5) 1 (Int32.ofNat f)) else some (.inl none, csI (csI (csI c 1004 w 5) 1006 w (if b = true then 256 * Int32.ofNat k + 61 else Int32.ofNat k)) 1003 w (Int32.ofNat (if b = true then f + 2 else f + 1)))) := by
    intro y b hy
    rw [uX10_sign_22]
    simp only [pP, cret, rC, bB, Nat.reduceDiv, Nat.reduceLeDiff, Nat.reduceLT,  eq_self, if_true, if_false, true_and, and_true, false_and, and_false, or_true, true_or, or_false, false_or, reduceIte, reduceCtorEq, Nat.reduceEqDiff, not_true_eq_false, not_false_eq_true, r_misN, r_misR]
    rw [z_nat (by omega)]
    simp only [c_idx hk]
    by_cases q : Int32.ofNat k ∉ sgs
    · rw [if_pos q, if_pos q]
      have := c_throw (d + 1) (c := csI c 1004 w 5) (w := w) h1 hl 1
      simp only [gC] at this
      rw [this]
      simp [hfr]
    · rw [if_neg q, if_neg q]
      have e41 : ∀ v, fX10_sign_41 (cC (d + 14)) (.ref w) (bi b) (.ref w) v (csI c 1004 w 5) = some (.inl none, csI (csI (csI c 1004 w 5) 1006 w v) 1003 w (Int32.ofNat (if b = true then f + 2 else f + 1))) := by
        intro v
        rw [uX10_sign_41]
        simp only [h1, rC, bB, Nat.reduceDiv, Nat.reduceLeDiff, Nat.reduceLT,  eq_self, if_true, if_false, true_and, and_true, false_and, and_false, or_true, true_or, or_false, false_or, reduceIte, reduceCtorEq, Nat.reduceEqDiff, not_true_eq_false, not_false_eq_true, r_misN, r_misR, gC, hat]
        cases b
        · simp only [bi_f, if_true, Bool.false_eq_true, if_false]
          rw [show (1 : Int32) = Int32.ofNat 1 from rfl, z_add]
        · simp only [bi_t, show ((1 : Int32) = 0) = False from by decide, if_true, if_false]
          rw [show (2 : Int32) = Int32.ofNat 2 from rfl, z_add]
      rw [e41, e41]
      cases b
      · simp only [bi_f, if_true, Bool.false_eq_true, if_false]
      · rw [hy rfl]
        simp only [bi_t, show ((1 : Int32) = 0) = False from by decide, if_true, if_false]
  simp only [kX10_sign, uX10_sign, h1, rC, bB, Nat.reduceDiv, Nat.reduceLeDiff, Nat.reduceLT,  eq_self, if_true, if_false, true_and, and_true, false_and, and_false, or_true, true_or, or_false, false_or, reduceIte, reduceCtorEq, Nat.reduceEqDiff, not_true_eq_false, not_false_eq_true, r_misN, r_misR, gC, hat]
  rw [show (1 : Int32) = Int32.ofNat 1 from rfl, z_add, hs]
  simp only [rC, bB, Nat.reduceDiv, Nat.reduceLeDiff, Nat.reduceLT,  eq_self, if_true, if_false, true_and, and_true, false_and, and_false, or_true, true_or, or_false, false_or, reduceIte, reduceCtorEq, Nat.reduceEqDiff, not_true_eq_false, not_false_eq_true, r_misN, r_misR]
  have t0 := e22 (χ (f + 1)) false (by intro h; cases h)
  rw [bi_f] at t0
  by_cases q1 : χ (f + 1) = 61
  · have t1 := e22 (χ (f + 1)) true (fun _ => q1)
    rw [bi_t] at t1
    rw [show Int32.ofNat 1 = (1 : Int32) from rfl, t1, t0]
    rw [if_pos q1]
    by_cases q2 : Int32.ofNat k = 58
    · rw [if_pos q2]
      have q3 : two (Int32.ofNat k) (χ (f + 1)) = true := by simp [two, q1, q2]
      rw [q3]
    · rw [if_neg q2]
      by_cases q4 : Int32.ofNat k = 61
      · rw [if_pos q4]
        have q3 : two (Int32.ofNat k) (χ (f + 1)) = true := by simp [two, q1, q4]
        rw [q3]
      · rw [if_neg q4]
        have q3 : two (Int32.ofNat k) (χ (f + 1)) = false := by simp [two, q2, q4]
        rw [q3]
  · rw [if_neg q1, t0]
    have q3 : two (Int32.ofNat k) (χ (f + 1)) = false := by simp [two, q1]
    rw [q3]
    rfl
