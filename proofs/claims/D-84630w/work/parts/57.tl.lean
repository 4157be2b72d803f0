set_option maxRecDepth 100000
set_option maxHeartbeats 1000000
/-! D7: the reference's words -/
theorem tp_any (d m : Nat) (as : List mE) (h : tS) (hm : Nat.ble 9000 m = true) : cT (d + 9) m as h = tStr m as h := by
  have q : cT (d + 9) m as h = cond (Nat.ble 9000 m) (cond (Nat.ble 8 (d + 8)) (tStr m as h) none) (nthD (fun _ _ _ => none) tTab m (cT (d + 8)) as h) := rfl
  rw [q, hm, Nat.ble_eq_true_of_le (by omega)]
  rfl
theorem tself_I (h : tS) (x : Nat) : tsI h x (tI h x) = h := by
  unfold tsI tI
  congr 1
  funext y
  by_cases e : y = x
  · rw [if_pos e, e]
  · rw [if_neg e]
theorem tself_L (h : tS) (x : Nat) : tsL h x (tL h x) = h := by
  unfold tsL tL
  congr 2
  funext y
  by_cases e : y = x
  · rw [if_pos e, e]
  · rw [if_neg e]
theorem t_in (d : Nat) (a b c : Int64) (h : tS) : cT (d + 1) 4 [eL a, eL b, eL c] h = some (.inl (some (eI (bi (decide (b ≤ a ∧ a ≤ c))))), h) := by
  rw [kX7_in, uX7_in]
  simp only [lg_cmp_lt, lg_cmp_gt]
  by_cases h1 : a < b
  · have : ¬ (b ≤ a) := by rw [Int64.not_le]; exact h1
    simp [h1, this, bi]
  · have h1' : b ≤ a := by rwa [Int64.not_lt] at h1
    by_cases h2 : c < a
    · have : ¬ (a ≤ c) := by rw [Int64.not_le]; exact h2
      simp [h1, h2, this, bi]
    · have h2' : a ≤ c := by rwa [Int64.not_lt] at h2
      simp [h1, h2, h1', h2', bi]
theorem i64_le (a b : Int32) : (a.toInt64 ≤ b.toInt64) = (a ≤ b) := by
  rw [eq_iff_iff, Int64.le_iff_toInt_le, Int32.le_iff_toInt_le, Int32.toInt_toInt64, Int32.toInt_toInt64]
theorem t_isL (d : Nat) (x : Int32) (h : tS) : cT (d + 2) 9 [eI x] h = some (.inl (some (eI (bi (aL x)))), h) := by
  rw [kX7_isLetter, uX7_isLetter, t_in, show (97 : Int64) = (97 : Int32).toInt64 from rfl, show (122 : Int64) = (122 : Int32).toInt64 from rfl]
  simp only [rT, bB, eq_self, if_true, if_false, true_and, and_true, false_and, and_false, or_true, true_or, or_false, false_or, reduceIte, Nat.reduceEqDiff, not_true_eq_false, not_false_eq_true, i64_le, bi_01]
  have e : decide ((97 : Int32) ≤ x ∧ x ≤ 122) = aL x := by
    unfold aL
    by_cases h1 : x < 97
    · have : ¬ ((97 : Int32) ≤ x) := by rw [Int32.not_le]; exact h1
      simp [h1, this]
    · have h1' : (97 : Int32) ≤ x := by rwa [Int32.not_lt] at h1
      by_cases h2 : 122 < x
      · have : ¬ (x ≤ (122 : Int32)) := by rw [Int32.not_le]; exact h2
        simp [h1, h2, this]
      · have h2' : x ≤ (122 : Int32) := by rwa [Int32.not_lt] at h2
        simp [h1, h2, h1', h2']
  rw [e]
theorem t_isD (d : Nat) (x : Int32) (h : tS) : cT (d + 2) 11 [eI x] h = some (.inl (some (eI (bi (aD x)))), h) := by
  rw [kX7_isDigit, uX7_isDigit, t_in, show (48 : Int64) = (48 : Int32).toInt64 from rfl, show (57 : Int64) = (57 : Int32).toInt64 from rfl]
  simp only [rT, bB, eq_self, if_true, if_false, true_and, and_true, false_and, and_false, or_true, true_or, or_false, false_or, reduceIte, Nat.reduceEqDiff, not_true_eq_false, not_false_eq_true, i64_le, bi_01]
  have e : decide ((48 : Int32) ≤ x ∧ x ≤ 57) = aD x := by
    unfold aD
    by_cases h1 : x < 48
    · have : ¬ ((48 : Int32) ≤ x) := by rw [Int32.not_le]; exact h1
      simp [h1, this]
    · have h1' : (48 : Int32) ≤ x := by rwa [Int32.not_lt] at h1
      by_cases h2 : 57 < x
      · have : ¬ (x ≤ (57 : Int32)) := by rw [Int32.not_le]; exact h2
        simp [h1, h2, this]
      · have h2' : x ≤ (57 : Int32) := by rwa [Int32.not_lt] at h2
        simp [h1, h2, h1', h2']
  rw [e]
theorem t_dg (d : Nat) (x : Int32) (h : tS) : cT (d + 3) 12 [eI x] h = some (.inl (some (eI (dg x))), h) := by
  rw [kX7_digitOf, uX7_digitOf, t_isL]
  simp only [rT, bB, eq_self, if_true, if_false, true_and, and_true, false_and, and_false, or_true, true_or, or_false, false_or, reduceIte, Nat.reduceEqDiff, not_true_eq_false, not_false_eq_true]
  unfold dg
  cases aL x <;> simp [bi]
def TX (χ : Nat → Int32) (n : Nat) (s : tS) : Prop := tI s 4 = Int32.ofNat n ∧ n ≤ 3000 ∧ (∀ k, k < n → tA s 3 k = χ k) ∧ (∀ k, n ≤ k → χ k = -1)
theorem TX_I {χ : Nat → Int32} {n x : Nat} {s : tS} {v : Int32} (hx : x ≠ 4) (h : TX χ n s) : TX χ n (tsI s x v) := by
  obtain ⟨h1, h2, h3, h4⟩ := h
  exact ⟨by rw [t_I_I, if_neg (Ne.symm hx)]; exact h1, h2, h3, h4⟩
theorem TX_L {χ : Nat → Int32} {n x : Nat} {s : tS} {v : Int64} (h : TX χ n s) : TX χ n (tsL s x v) := h
theorem TX_B {χ : Nat → Int32} {n x j : Nat} {s : tS} {v : Int64} (h : TX χ n s) : TX χ n (tsB s x j v) := h
theorem t_at {χ : Nat → Int32} {n k : Nat} {s : tS} (d : Nat) (hX : TX χ n s) (hk : k < 2147483648) : cT (d + 1) 8 [eR (.ref 0), eI (Int32.ofNat k)] s = some (.inl (some (eI (χ k))), s) := by
  obtain ⟨h1, h2, h3, h4⟩ := hX
  rw [kX7_at, uX7_at, h1]
  simp only [z_lt hk (show n < 2147483648 by omega)]
  by_cases q : k < n
  · rw [if_pos q, q_3 (by omega), h3 k q]
  · rw [if_neg q, h4 k (by omega)]
theorem t_fine (d : Nat) (s : tS) : cT (d + 1) 7 [eR (.ref 0)] s = some (.inl (some (eI (bi (decide (tI s 6 = 0))))), s) := by
  rw [kX7_isFine, uX7_isFine]
  by_cases h : tI s 6 = 0 <;> simp [h, bi]
/-- the heap behind a fault -/
def fH (s : tS) (k pl : Int32) : tS := if tI s 6 = 0 then tsI (tsI (tsI s 6 k) 7 pl) 8 0 else tsI s 8 0
theorem t_failsAt (d : Nat) (k pl : Int32) (s : tS) : cT (d + 1) 14 [eR (.ref 0), eI k, eI pl] s = some (.inl none, fH s k pl) := by
  rw [kX7_failsAt, uX7_failsAt]
  simp only [rT, bB, eq_self, if_true, if_false, true_and, and_true, false_and, and_false, or_true, true_or, or_false, false_or, reduceIte, Nat.reduceEqDiff, not_true_eq_false, not_false_eq_true]
  unfold fH
  split <;> rfl
theorem t_fails (d : Nat) (k : Int32) (s : tS) : cT (d + 2) 13 [eR (.ref 0), eI k] s = some (.inl none, fH s k (tI s 9)) := by
  rw [kX7_fails, uX7_fails, t_failsAt]
  simp only [rT, bB, eq_self, if_true, if_false, true_and, and_true, false_and, and_false, or_true, true_or, or_false, false_or, reduceIte, Nat.reduceEqDiff, not_true_eq_false, not_false_eq_true]
theorem t_misfit (d : Nat) (s : tS) : cT (d + 2) 24 [eR (.ref 0)] s = some (.inl none, fH s 1 (if tI s 8 = 0 then tI s 4 else tI s 9)) := by
  rw [kX7_misfit, uX7_misfit, t_failsAt, t_failsAt]
  simp only [rT, bB, eq_self, if_true, if_false, true_and, and_true, false_and, and_false, or_true, true_or, or_false, false_or, reduceIte, Nat.reduceEqDiff, not_true_eq_false, not_false_eq_true]
  split <;> rfl
/-! blanks -/
theorem t_blanks {χ : Nat → Int32} {n : Nat} (d : Nat) : ∀ (f : Nat),
    (∀ (p : Nat) (s : tS), TX χ n s → n ≤ p + f → p ≤ n → tI s 10 = Int32.ofNat p → fX7_next_6 (cT (d + 1)) 1 s = fX7_next_6 (cT (d + 1)) 0 (tsI s 10 (Int32.ofNat (xSk χ n f false p)))) ∧
    (∀ (p : Nat) (s : tS), TX χ n s → n ≤ p + f → p ≤ n → tI s 10 = Int32.ofNat p → fX7_next_30 (cT (d + 1)) s = fX7_next_6 (cT (d + 1)) 0 (tsI s 10 (Int32.ofNat (xSk χ n f true p)))) := by
  intro f
  have e1z : ((1 : Int32) = 0) = False := by decide
  have m32 : ((-1 : Int32) = 32) = False := by decide
  have m10 : ((-1 : Int32) = 10) = False := by decide
  have m35 : ((-1 : Int32) = 35) = False := by decide
  induction f with
  | zero =>
    have hA : ∀ (p : Nat) (s : tS), TX χ n s → n ≤ p + 0 → p ≤ n → tI s 10 = Int32.ofNat p → fX7_next_6 (cT (d + 1)) 1 s = fX7_next_6 (cT (d + 1)) 0 (tsI s 10 (Int32.ofNat p)) := by
      intro p s hX hf hp hto
      have hs := t_at d hX (k := p) (by have := hX.2.1; omega)
      have hc : χ p = -1 := hX.2.2.2 p (by omega)
      rw [uX7_next_6]
      simp only [hto, hs, hc, e1z, m32, m10, rT, bB, eq_self, if_true, if_false, true_and, and_true, false_and, and_false, or_true, true_or, or_false, false_or, reduceIte, Nat.reduceEqDiff, not_true_eq_false, not_false_eq_true]
      rw [uX7_next_23]
      simp only [hto, hs, hc, m35, rT, bB, eq_self, if_true, if_false, true_and, and_true, false_and, and_false, or_true, true_or, or_false, false_or, reduceIte, Nat.reduceEqDiff, not_true_eq_false, not_false_eq_true]
      rw [← hto, tself_I]
    refine ⟨?_, ?_⟩
    · intro p s hX hf hp hto
      simp only [xSk]
      exact hA p s hX hf hp hto
    · intro p s hX hf hp hto
      simp only [xSk]
      rw [uX7_next_30, hto, hX.1]
      simp only [z_lt (show p < 2147483648 by have := hX.2.1; omega) (show n < 2147483648 by have := hX.2.1; omega)]
      rw [if_neg (by omega)]
      exact hA p s hX hf hp hto
  | succ f ih =>
    obtain ⟨ihA, ihB⟩ := ih
    have hup : ∀ (p : Nat) (s : tS), tI s 10 = Int32.ofNat p → tI s 10 + 1 = Int32.ofNat (p + 1) := by
      intro p s h
      rw [h, show (1 : Int32) = Int32.ofNat 1 from rfl, z_add]
    have hA : ∀ (p : Nat) (s : tS), TX χ n s → n ≤ p + (f + 1) → p ≤ n → tI s 10 = Int32.ofNat p → fX7_next_6 (cT (d + 1)) 1 s = fX7_next_6 (cT (d + 1)) 0 (tsI s 10 (Int32.ofNat (xSk χ n (f + 1) false p))) := by
      intro p s hX hf hp hto
      have hn := hX.2.1
      have hs := t_at d hX (k := p) (by omega)
      by_cases hpn : p < n
      · have hX1 : TX χ n (tsI s 10 (Int32.ofNat (p + 1))) := TX_I (by decide) hX
        have hto1 : tI (tsI s 10 (Int32.ofNat (p + 1))) 10 = Int32.ofNat (p + 1) := by simp [gT]
        have iA := ihA (p + 1) _ hX1 (by omega) (by omega) hto1
        have iB := ihB (p + 1) _ hX1 (by omega) (by omega) hto1
        rw [to_I] at iA iB
        by_cases q35 : χ p = 35
        · have h1 : fX7_next_6 (cT (d + 1)) 1 s = fX7_next_30 (cT (d + 1)) s := by
            rw [uX7_next_6]
            simp only [hto, hs, q35, e1z, show ((35 : Int32) = 32) = False from by decide, show ((35 : Int32) = 10) = False from by decide, rT, bB, eq_self, if_true, if_false, true_and, and_true, false_and, and_false, or_true, true_or, or_false, false_or, reduceIte, Nat.reduceEqDiff, not_true_eq_false, not_false_eq_true]
            rw [uX7_next_23]
            simp only [hto, hs, q35, rT, bB, eq_self, if_true, if_false, true_and, and_true, false_and, and_false, or_true, true_or, or_false, false_or, reduceIte, Nat.reduceEqDiff, not_true_eq_false, not_false_eq_true]
          rw [h1, uX7_next_30, hto, hX.1]
          simp only [z_lt (show p < 2147483648 by omega) (show n < 2147483648 by omega), hpn, hs, q35, show ((35 : Int32) = 10) = False from by decide, rT, bB, eq_self, if_true, if_false, true_and, and_true, false_and, and_false, or_true, true_or, or_false, false_or, reduceIte, Nat.reduceEqDiff, not_true_eq_false, not_false_eq_true]
          rw [hup p s hto, iB]
          simp [xSk, hpn, q35]
        · by_cases qb : χ p = 32 ∨ χ p = 10
          · have h1 : fX7_next_6 (cT (d + 1)) 1 s = fX7_next_23 (cT (d + 1)) 1 s := by
              rw [uX7_next_6]
              rcases qb with q | q <;> simp only [hto, hs, q, e1z, show ((10 : Int32) = 32) = False from by decide, rT, bB, eq_self, if_true, if_false, true_and, and_true, false_and, and_false, or_true, true_or, or_false, false_or, reduceIte, Nat.reduceEqDiff, not_true_eq_false, not_false_eq_true]
            rw [h1, uX7_next_23]
            simp only [hto, hs, q35, e1z, rT, bB, eq_self, if_true, if_false, true_and, and_true, false_and, and_false, or_true, true_or, or_false, false_or, reduceIte, Nat.reduceEqDiff, not_true_eq_false, not_false_eq_true]
            rw [show Int32.ofNat p + 1 = Int32.ofNat (p + 1) from by rw [show (1 : Int32) = Int32.ofNat 1 from rfl, z_add], iA]
            congr 3
            rcases qb with q | q <;> simp [xSk, hpn, q]
          · have q32 : χ p ≠ 32 := fun q => qb (Or.inl q)
            have q10 : χ p ≠ 10 := fun q => qb (Or.inr q)
            rw [uX7_next_6]
            simp only [hto, hs, q32, q10, e1z, rT, bB, eq_self, if_true, if_false, true_and, and_true, false_and, and_false, or_true, true_or, or_false, false_or, reduceIte, Nat.reduceEqDiff, not_true_eq_false, not_false_eq_true]
            rw [uX7_next_23]
            simp only [hto, hs, q35, rT, bB, eq_self, if_true, if_false, true_and, and_true, false_and, and_false, or_true, true_or, or_false, false_or, reduceIte, Nat.reduceEqDiff, not_true_eq_false, not_false_eq_true]
            simp only [xSk, q32, q10, q35, hpn, or_false, and_false, if_false, Bool.false_eq_true]
            rw [← hto, tself_I]
      · have hc : χ p = -1 := hX.2.2.2 p (by omega)
        rw [uX7_next_6]
        simp only [hto, hs, hc, e1z, m32, m10, rT, bB, eq_self, if_true, if_false, true_and, and_true, false_and, and_false, or_true, true_or, or_false, false_or, reduceIte, Nat.reduceEqDiff, not_true_eq_false, not_false_eq_true]
        rw [uX7_next_23]
        simp only [hto, hs, hc, m35, rT, bB, eq_self, if_true, if_false, true_and, and_true, false_and, and_false, or_true, true_or, or_false, false_or, reduceIte, Nat.reduceEqDiff, not_true_eq_false, not_false_eq_true]
        simp only [xSk, hpn, false_and, if_false]
        rw [← hto, tself_I]
    refine ⟨hA, ?_⟩
    intro p s hX hf hp hto
    have hn := hX.2.1
    have hs := t_at d hX (k := p) (by omega)
    by_cases hpn : p < n
    · have hX1 : TX χ n (tsI s 10 (Int32.ofNat (p + 1))) := TX_I (by decide) hX
      have hto1 : tI (tsI s 10 (Int32.ofNat (p + 1))) 10 = Int32.ofNat (p + 1) := by simp [gT]
      have iB := ihB (p + 1) _ hX1 (by omega) (by omega) hto1
      rw [to_I] at iB
      by_cases q10 : χ p = 10
      · rw [uX7_next_30, hto, hX.1]
        simp only [z_lt (show p < 2147483648 by omega) (show n < 2147483648 by omega), hpn, hs, q10, rT, bB, eq_self, if_true, if_false, true_and, and_true, false_and, and_false, or_true, true_or, or_false, false_or, reduceIte, Nat.reduceEqDiff, not_true_eq_false, not_false_eq_true]
        rw [hA p s hX hf hp hto]
        simp [xSk, hpn, q10]
      · rw [uX7_next_30, hto, hX.1]
        simp only [z_lt (show p < 2147483648 by omega) (show n < 2147483648 by omega), hpn, hs, q10, rT, bB, eq_self, if_true, if_false, true_and, and_true, false_and, and_false, or_true, true_or, or_false, false_or, reduceIte, Nat.reduceEqDiff, not_true_eq_false, not_false_eq_true]
        rw [hup p s hto, iB]
        simp [xSk, hpn, q10]
    · rw [uX7_next_30, hto, hX.1]
      simp only [z_lt (show p < 2147483648 by omega) (show n < 2147483648 by omega), hpn, rT, bB, eq_self, if_true, if_false, true_and, and_true, false_and, and_false, or_true, true_or, or_false, false_or, reduceIte, Nat.reduceEqDiff, not_true_eq_false, not_false_eq_true]
      rw [hA p s hX hf hp hto]
      simp [xSk, hpn]
