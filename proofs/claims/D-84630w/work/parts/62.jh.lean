set_option maxRecDepth 100000
set_option maxHeartbeats 1000000
/-! D12: the reference's small members; what they do behind a fault -/
theorem e10 : ((1 : Int32) = 0) = False := by decide
theorem t_isKey (d : Nat) (k : Int32) (s : tS) : cT (d + 2) 21 [eR (.ref 0), eI k] s = some (.inl (some (eI (bi (decide (tI s 6 = 0 ∧ tI s 8 = 2 ∧ tI s 11 = k))))), s) := by
  rw [kX7_isKey, uX7_isKey, t_fine]
  simp only [rT, bB, eq_self, if_true, if_false, true_and, and_true, false_and, and_false, or_true, true_or, or_false, false_or, reduceIte, Nat.reduceEqDiff, not_true_eq_false, not_false_eq_true]
  by_cases h1 : tI s 6 = 0
  · by_cases h2 : tI s 8 = 2
    · by_cases h3 : tI s 11 = k <;> simp [h1, h2, h3, bi]
    · simp [h1, h2, bi]
  · simp [h1, bi]
theorem t_isSign (d : Nat) (k : Int32) (s : tS) : cT (d + 2) 27 [eR (.ref 0), eI k] s = some (.inl (some (eI (bi (decide (tI s 6 = 0 ∧ tI s 8 = 5 ∧ tI s 11 = k))))), s) := by
  rw [kX7_isSign, uX7_isSign, t_fine]
  simp only [rT, bB, eq_self, if_true, if_false, true_and, and_true, false_and, and_false, or_true, true_or, or_false, false_or, reduceIte, Nat.reduceEqDiff, not_true_eq_false, not_false_eq_true]
  by_cases h1 : tI s 6 = 0
  · by_cases h2 : tI s 8 = 5
    · by_cases h3 : tI s 11 = k <;> simp [h1, h2, h3, bi]
    · simp [h1, h2, bi]
  · simp [h1, bi]
theorem t_signE (d : Nat) (k : Int32) (s : tS) : cT (d + 4) 26 [eR (.ref 0), eI k] s = (if tI s 6 = 0 ∧ tI s 8 = 5 ∧ tI s 11 = k then (bV (cT (d + 3) 6 [eR (.ref 0)] s) fun h => some (.inl none, h)) else if tI s 6 = 0 then some (.inl none, fH s 1 (if tI s 8 = 0 then tI s 4 else tI s 9)) else some (.inl none, s)) := by
  rw [kX7_sign, uX7_sign]
  simp only [rT, bB, eq_self, if_true, if_false, true_and, and_true, false_and, and_false, or_true, true_or, or_false, false_or, reduceIte, Nat.reduceEqDiff, not_true_eq_false, not_false_eq_true, t_isSign, t_fine, t_misfit, bi_0, decide_eq_false_iff_not]
  by_cases h : tI s 6 = 0 ∧ tI s 8 = 5 ∧ tI s 11 = k
  · simp [h]
  · rw [if_pos h, if_neg h]
    by_cases h1 : tI s 6 = 0 <;> simp [h1]
theorem t_keyE (d : Nat) (k : Int32) (s : tS) : cT (d + 4) 31 [eR (.ref 0), eI k] s = (if tI s 6 = 0 ∧ tI s 8 = 2 ∧ tI s 11 = k then (bV (cT (d + 3) 6 [eR (.ref 0)] s) fun h => some (.inl none, h)) else if tI s 6 = 0 then some (.inl none, fH s 1 (if tI s 8 = 0 then tI s 4 else tI s 9)) else some (.inl none, s)) := by
  rw [kX7_key, uX7_key]
  simp only [rT, bB, eq_self, if_true, if_false, true_and, and_true, false_and, and_false, or_true, true_or, or_false, false_or, reduceIte, Nat.reduceEqDiff, not_true_eq_false, not_false_eq_true, t_isKey, t_fine, t_misfit, bi_0, decide_eq_false_iff_not]
  by_cases h : tI s 6 = 0 ∧ tI s 8 = 2 ∧ tI s 11 = k
  · simp [h]
  · rw [if_pos h, if_neg h]
    by_cases h1 : tI s 6 = 0 <;> simp [h1]
theorem fH_ne {s : tS} {k pl : Int32} (hk : k ≠ 0) : tI (fH s k pl) 6 ≠ 0 := by
  unfold fH
  split
  · simp [gT, hk]
  · rename_i h; simp [gT, h]
theorem t_isName (d : Nat) (s : tS) : cT (d + 3) 29 [eR (.ref 0)] s = (if tI s 6 = 0 then (if tI s 8 = 1 then some (.inl (some (eI 1)), s) else some (.inl (some (eI 0)), fH s 1 (if tI s 8 = 0 then tI s 4 else tI s 9))) else some (.inl (some (eI 0)), s)) := by
  rw [kX7_isName, uX7_isName]
  simp only [rT, bB, eq_self, if_true, if_false, true_and, and_true, false_and, and_false, or_true, true_or, or_false, false_or, reduceIte, Nat.reduceEqDiff, not_true_eq_false, not_false_eq_true, t_fine, t_misfit]
  by_cases h1 : tI s 6 = 0
  · by_cases h2 : tI s 8 = 1
    · simp [h1, h2, bi, bI, mz]
    · have := fH_ne (s := s) (k := 1) (pl := if tI s 8 = 0 then tI s 4 else tI s 9) (by decide)
      simp only [h1, h2, decide_true, bi_t, e10, if_false, t_fine, this, decide_false, bi_f, if_true, rT, bB, eq_self, if_true, if_false, true_and, and_true, false_and, and_false, or_true, true_or, or_false, false_or, reduceIte, Nat.reduceEqDiff, not_true_eq_false, not_false_eq_true]
  · simp [h1, bi, bI, mz]
/-- whether a prefix begins with the word at hand -/
def bPre (s : tS) : Bool := decide (tI s 8 = 1 ∨ tI s 8 = 3 ∨ (tI s 8 = 5 ∧ (tI s 11 = 123 ∨ tI s 11 = 40)) ∨ (tI s 8 = 2 ∧ tI s 11 ∈ ([10, 11, 12, 13, 14, 15, 16, 17, 18, 19, 20, 21, 22] : List Int32)))
def bEs (s : tS) : Bool := bPre s || decide (tI s 8 = 2 ∧ (tI s 11 = 3 ∨ tI s 11 = 5 ∨ tI s 11 = 8))
theorem t_bPre (d : Nat) (s : tS) : cT (d + 1) 42 [eR (.ref 0)] s = some (.inl (some (eI (bi (bPre s)))), s) := by
  rw [kX7_beginsPrefix, uX7_beginsPrefix]
  unfold bPre
  by_cases h1 : tI s 8 = 1
  · simp [h1, bi]
  · by_cases h3 : tI s 8 = 3
    · simp [h3, bi]
    · by_cases h5 : tI s 8 = 5
      · by_cases q1 : tI s 11 = 123
        · simp [h5, q1, bi]
        · by_cases q2 : tI s 11 = 40 <;> simp [h5, q1, q2, bi]
      · by_cases h2 : tI s 8 = 2
        · simp only [h2, show ((2 : Int32) = 1) = False from by decide, show ((2 : Int32) = 3) = False from by decide, show ((2 : Int32) = 5) = False from by decide, if_true, if_false, false_or, false_and, true_and, List.mem_cons, List.not_mem_nil, or_false]
          by_cases hm : tI s 11 ∈ ([10, 11, 12, 13, 14, 15, 16, 17, 18, 19, 20, 21, 22] : List Int32)
          · simp only [List.mem_cons, List.not_mem_nil, or_false] at hm
            rcases hm with h | h | h | h | h | h | h | h | h | h | h | h | h <;> simp [h, bi]
          · simp only [List.mem_cons, List.not_mem_nil, or_false, not_or] at hm
            obtain ⟨m1, m2, m3, m4, m5, m6, m7, m8, m9, m10, m11, m12, m13⟩ := hm
            simp [m1, m2, m3, m4, m5, m6, m7, m8, m9, m10, m11, m12, m13, bi]
        · simp [h1, h2, h3, h5, bi]
theorem t_bEs (d : Nat) (s : tS) : cT (d + 2) 41 [eR (.ref 0)] s = some (.inl (some (eI (bi (bEs s)))), s) := by
  rw [kX7_beginsE, uX7_beginsE, t_bPre]
  simp only [rT, bB, eq_self, if_true, if_false, true_and, and_true, false_and, and_false, or_true, true_or, or_false, false_or, reduceIte, Nat.reduceEqDiff, not_true_eq_false, not_false_eq_true]
  unfold bEs
  cases bPre s
  · by_cases h2 : tI s 8 = 2
    · by_cases q1 : tI s 11 = 3
      · simp [h2, q1, bi]
      · by_cases q2 : tI s 11 = 5
        · simp [h2, q1, q2, bi]
        · by_cases q3 : tI s 11 = 8 <;> simp [h2, q1, q2, q3, bi]
    · simp [h2, bi]
  · simp [bi]
theorem t_deeper (d : Nat) (b : Bool) (s : tS) : cT (d + 3) 43 [eR (.ref 0), eI (bi b)] s = (if tI s 6 = 0 then (if b = false then some (.inl (some (eI 0)), fH s 1 (if tI s 8 = 0 then tI s 4 else tI s 9)) else if tI s 63 = 24 then some (.inl (some (eI 0)), fH s 4 (tI s 9)) else some (.inl (some (eI 1)), tsI s 63 (tI s 63 + 1))) else some (.inl (some (eI 0)), s)) := by
  rw [kX7_deeper, uX7_deeper]
  simp only [rT, bB, eq_self, if_true, if_false, true_and, and_true, false_and, and_false, or_true, true_or, or_false, false_or, reduceIte, Nat.reduceEqDiff, not_true_eq_false, not_false_eq_true, t_fine, t_misfit, t_fails, bi_0]
  by_cases h1 : tI s 6 = 0
  · cases b
    · simp [h1]
    · by_cases h2 : tI s 63 = 24 <;> simp [h1, h2]
  · simp [h1]
/-! behind a fault -/
section
variable {s : tS} (hb : tI s 6 ≠ 0)
theorem F_next (d : Nat) : tI s 6 ≠ 0 → cT (d + 2) 6 [eR (.ref 0)] s = some (.inl none, s) := by
  intro hb
  rw [kX7_next, uX7_next, t_fine]
  simp [hb, bi, bI]
theorem F_sign (d : Nat) (k : Int32) : tI s 6 ≠ 0 → cT (d + 4) 26 [eR (.ref 0), eI k] s = some (.inl none, s) := by
  intro hb
  rw [t_signE]; simp [hb]
theorem F_key (d : Nat) (k : Int32) : tI s 6 ≠ 0 → cT (d + 4) 31 [eR (.ref 0), eI k] s = some (.inl none, s) := by
  intro hb
  rw [t_keyE]; simp [hb]
theorem F_isKey (d : Nat) (k : Int32) : tI s 6 ≠ 0 → cT (d + 2) 21 [eR (.ref 0), eI k] s = some (.inl (some (eI 0)), s) := by
  intro hb
  rw [t_isKey]; simp [hb, bi]
theorem F_isSign (d : Nat) (k : Int32) : tI s 6 ≠ 0 → cT (d + 2) 27 [eR (.ref 0), eI k] s = some (.inl (some (eI 0)), s) := by
  intro hb
  rw [t_isSign]; simp [hb, bi]
theorem F_isName (d : Nat) : tI s 6 ≠ 0 → cT (d + 3) 29 [eR (.ref 0)] s = some (.inl (some (eI 0)), s) := by
  intro hb
  rw [t_isName]; simp [hb]
theorem F_fine (d : Nat) : tI s 6 ≠ 0 → cT (d + 1) 7 [eR (.ref 0)] s = some (.inl (some (eI 0)), s) := by
  intro hb
  rw [t_fine]; simp [hb, bi]
theorem F_deeper (d : Nat) (b : Bool) : tI s 6 ≠ 0 → cT (d + 3) 43 [eR (.ref 0), eI (bi b)] s = some (.inl (some (eI 0)), s) := by
  intro hb
  rw [t_deeper]; simp [hb]
theorem F_e (d : Nat) : tI s 6 ≠ 0 → cT (d + 4) 40 [eR (.ref 0)] s = some (.inl (some (eI 0)), s) := by
  intro hb
  rw [kX7_e, uX7_e, t_bEs]
  simp only [rT, bB, eq_self, if_true, if_false, true_and, and_true, false_and, and_false, or_true, true_or, or_false, false_or, reduceIte, Nat.reduceEqDiff, not_true_eq_false, not_false_eq_true]
  rw [F_deeper d _ hb]
  simp only [rT, bB, eq_self, if_true, if_false, true_and, and_true, false_and, and_false, or_true, true_or, or_false, false_or, reduceIte, Nat.reduceEqDiff, not_true_eq_false, not_false_eq_true]
theorem F_inner (d : Nat) : tI s 6 ≠ 0 → cT (d + 4) 57 [eR (.ref 0)] s = some (.inl (some (eI 0)), s) := by
  intro hb
  rw [kX7_innerPrefix, uX7_innerPrefix, t_bPre]
  simp only [rT, bB, eq_self, if_true, if_false, true_and, and_true, false_and, and_false, or_true, true_or, or_false, false_or, reduceIte, Nat.reduceEqDiff, not_true_eq_false, not_false_eq_true]
  rw [F_deeper d _ hb]
  simp only [rT, bB, eq_self, if_true, if_false, true_and, and_true, false_and, and_false, or_true, true_or, or_false, false_or, reduceIte, Nat.reduceEqDiff, not_true_eq_false, not_false_eq_true]
theorem F_gets (d : Nat) (x y : Int32) : tI s 6 ≠ 0 → cT (d + 2) 49 [eR (.ref 0), eI x, eI y] s = some (.inl none, s) := by
  intro hb
  rw [kX7_gets, uX7_gets, F_fine d hb]
  simp only [rT, bB, eq_self, if_true, if_false, true_and, and_true, false_and, and_false, or_true, true_or, or_false, false_or, reduceIte, Nat.reduceEqDiff, not_true_eq_false, not_false_eq_true]
theorem F_around (d : Nat) (x y : Int32) : tI s 6 ≠ 0 → cT (d + 2) 50 [eR (.ref 0), eI x, eI y] s = some (.inl none, s) := by
  intro hb
  rw [kX7_around, uX7_around, F_fine d hb]
  simp only [rT, bB, eq_self, if_true, if_false, true_and, and_true, false_and, and_false, or_true, true_or, or_false, false_or, reduceIte, Nat.reduceEqDiff, not_true_eq_false, not_false_eq_true]
theorem F_bodyOf (d : Nat) (x : Int32) : tI s 6 ≠ 0 → cT (d + 2) 59 [eR (.ref 0), eI x] s = some (.inl none, s) := by
  intro hb
  rw [kX7_bodyOf, uX7_bodyOf, F_fine d hb]
  simp only [rT, bB, eq_self, if_true, if_false, true_and, and_true, false_and, and_false, or_true, true_or, or_false, false_or, reduceIte, Nat.reduceEqDiff, not_true_eq_false, not_false_eq_true]
theorem F_any (d : Nat) : tI s 6 ≠ 0 → cT (d + 2) 55 [eR (.ref 0)] s = some (.inl (some (eI 0)), s) := by
  intro hb
  rw [kX7_anyPrefix, uX7_anyPrefix, F_fine d hb]
  simp only [rT, bB, eq_self, if_true, if_false, true_and, and_true, false_and, and_false, or_true, true_or, or_false, false_or, reduceIte, Nat.reduceEqDiff, not_true_eq_false, not_false_eq_true]
  rw [uX7_anyPrefix_8, F_fine d hb]
  simp only [rT, bB, eq_self, if_true, if_false, true_and, and_true, false_and, and_false, or_true, true_or, or_false, false_or, reduceIte, Nat.reduceEqDiff, not_true_eq_false, not_false_eq_true]
theorem F_product (d : Nat) : tI s 6 ≠ 0 → cT (d + 3) 54 [eR (.ref 0)] s = some (.inl (some (eI 0)), s) := by
  intro hb
  rw [kX7_product, uX7_product, F_any d hb]
  simp only [rT, bB, eq_self, if_true, if_false, true_and, and_true, false_and, and_false, or_true, true_or, or_false, false_or, reduceIte, Nat.reduceEqDiff, not_true_eq_false, not_false_eq_true]
  rw [uX7_product_3, F_isSign d _ hb]
  simp only [rT, bB, eq_self, if_true, if_false, true_and, and_true, false_and, and_false, or_true, true_or, or_false, false_or, reduceIte, Nat.reduceEqDiff, not_true_eq_false, not_false_eq_true]
theorem F_sum (d : Nat) : tI s 6 ≠ 0 → cT (d + 4) 53 [eR (.ref 0)] s = some (.inl (some (eI 0)), s) := by
  intro hb
  rw [kX7_sum, uX7_sum, F_product d hb]
  simp only [rT, bB, eq_self, if_true, if_false, true_and, and_true, false_and, and_false, or_true, true_or, or_false, false_or, reduceIte, Nat.reduceEqDiff, not_true_eq_false, not_false_eq_true]
  rw [uX7_sum_3]
  simp only [rT, bB, eq_self, if_true, if_false, true_and, and_true, false_and, and_false, or_true, true_or, or_false, false_or, reduceIte, Nat.reduceEqDiff, not_true_eq_false, not_false_eq_true, F_isSign _ _ hb]
theorem F_pattern (d : Nat) (x y : Int32) : tI s 6 ≠ 0 → cT (d + 2) 23 [eR (.ref 0), eI x, eI y] s = some (.inl none, s) := by
  intro hb
  rw [kX7_pattern, uX7_pattern, F_fine d hb]
  simp only [rT, bB, eq_self, if_true, if_false, true_and, and_true, false_and, and_false, or_true, true_or, or_false, false_or, reduceIte, Nat.reduceEqDiff, not_true_eq_false, not_false_eq_true]
theorem F_right (d : Nat) (x : Int32) : tI s 6 ≠ 0 → cT (d + 4) 28 [eR (.ref 0), eI x] s = some (.inl none, s) := by
  intro hb
  rw [kX7_right, uX7_right, F_isName d hb]
  simp only [rT, bB, eq_self, if_true, if_false, true_and, and_true, false_and, and_false, or_true, true_or, or_false, false_or, reduceIte, Nat.reduceEqDiff, not_true_eq_false, not_false_eq_true]
theorem F_newUnit (d : Nat) (x y z : Int32) : tI s 6 ≠ 0 → cT (d + 2) 37 [eR (.ref 0), eI x, eI y, eI z] s = some (.inl (some (eI 0)), s) := by
  intro hb
  rw [kX7_newUnit, uX7_newUnit, F_fine d hb]
  simp only [rT, bB, eq_self, if_true, if_false, true_and, and_true, false_and, and_false, or_true, true_or, or_false, false_or, reduceIte, Nat.reduceEqDiff, not_true_eq_false, not_false_eq_true]
theorem F_binds (d : Nat) (x : Int32) : tI s 6 ≠ 0 → cT (d + 4) 48 [eR (.ref 0), eI x] s = some (.inl none, s) := by
  intro hb
  rw [kX7_binds, uX7_binds, F_isName d hb]
  simp only [rT, bB, eq_self, if_true, if_false, true_and, and_true, false_and, and_false, or_true, true_or, or_false, false_or, reduceIte, Nat.reduceEqDiff, not_true_eq_false, not_false_eq_true]
theorem F_args (d : Nat) (x : Int32) : tI s 6 ≠ 0 → cT (d + 5) 73 [eR (.ref 0), eI x] s = some (.inl (some (eI 0)), s) := by
  intro hb
  rw [kX7_arguments, uX7_arguments, F_sign d _ hb]
  simp only [rT, bB, eq_self, if_true, if_false, true_and, and_true, false_and, and_false, or_true, true_or, or_false, false_or, reduceIte, Nat.reduceEqDiff, not_true_eq_false, not_false_eq_true]
  rw [F_isSign (d + 2) _ hb]
  simp only [rT, bB, eq_self, if_true, if_false, true_and, and_true, false_and, and_false, or_true, true_or, or_false, false_or, reduceIte, Nat.reduceEqDiff, not_true_eq_false, not_false_eq_true]
  rw [uX7_arguments_15, F_fine (d + 3) hb]
  simp only [rT, bB, eq_self, if_true, if_false, true_and, and_true, false_and, and_false, or_true, true_or, or_false, false_or, reduceIte, Nat.reduceEqDiff, not_true_eq_false, not_false_eq_true, e10, F_sign d _ hb]
theorem F_params (d : Nat) (x y : Int32) : tI s 6 ≠ 0 → cT (d + 5) 39 [eR (.ref 0), eI x, eI y] s = some (.inl none, s) := by
  intro hb
  rw [kX7_parameters, uX7_parameters, F_sign d _ hb]
  simp only [rT, bB, eq_self, if_true, if_false, true_and, and_true, false_and, and_false, or_true, true_or, or_false, false_or, reduceIte, Nat.reduceEqDiff, not_true_eq_false, not_false_eq_true]
  rw [F_fine (d + 3) hb]
  simp only [rT, bB, eq_self, if_true, if_false, true_and, and_true, false_and, and_false, or_true, true_or, or_false, false_or, reduceIte, Nat.reduceEqDiff, not_true_eq_false, not_false_eq_true]
theorem F_row25 (d : Nat) (x : Int32) : tI s 6 ≠ 0 → fX7_row_25 (cT (d + 4)) x s = some (.inl (some (eI x)), s) := by
  intro hb
  rw [uX7_row_25, F_isSign (d + 2) _ hb]
  simp only [rT, bB, eq_self, if_true, if_false, true_and, and_true, false_and, and_false, or_true, true_or, or_false, false_or, reduceIte, Nat.reduceEqDiff, not_true_eq_false, not_false_eq_true, F_sign d _ hb]
theorem F_row (d : Nat) : tI s 6 ≠ 0 → cT (d + 5) 71 [eR (.ref 0)] s = some (.inl (some (eI 0)), s) := by
  intro hb
  rw [kX7_row, uX7_row, F_sign d _ hb]
  simp only [rT, bB, eq_self, if_true, if_false, true_and, and_true, false_and, and_false, or_true, true_or, or_false, false_or, reduceIte, Nat.reduceEqDiff, not_true_eq_false, not_false_eq_true]
  rw [F_e d hb]
  simp only [rT, bB, eq_self, if_true, if_false, true_and, and_true, false_and, and_false, or_true, true_or, or_false, false_or, reduceIte, Nat.reduceEqDiff, not_true_eq_false, not_false_eq_true]
  rw [F_isSign (d + 2) _ hb]
  simp only [rT, bB, eq_self, if_true, if_false, true_and, and_true, false_and, and_false, or_true, true_or, or_false, false_or, reduceIte, Nat.reduceEqDiff, not_true_eq_false, not_false_eq_true, F_sign d _ hb]
end
theorem t_counts (d : Nat) (s : tS) : cT (d + 3) 46 [eR (.ref 0)] s = (if tI s 6 = 0 then (if tI s 62 = 400 then some (.inl (some (eI 0)), tsI (fH s 4 (tI s 9)) 62 (tI s 62 + 1)) else some (.inl (some (eI 1)), tsI s 62 (tI s 62 + 1))) else some (.inl (some (eI 0)), tsI s 62 (tI s 62 + 1))) := by
  have e : ∀ S : tS, fX7_countsPart_10 (cT (d + 2)) S = some (.inl (some (eI (bi (decide (tI S 6 = 0))))), tsI S 62 (tI S 62 + 1)) := by
    intro S
    rw [uX7_countsPart_10]
    simp only [rT, bB, eq_self, if_true, if_false, true_and, and_true, false_and, and_false, or_true, true_or, or_false, false_or, reduceIte, Nat.reduceEqDiff, not_true_eq_false, not_false_eq_true, t_fine, gT, bi_01]
  rw [kX7_countsPart, uX7_countsPart]
  simp only [rT, bB, eq_self, if_true, if_false, true_and, and_true, false_and, and_false, or_true, true_or, or_false, false_or, reduceIte, Nat.reduceEqDiff, not_true_eq_false, not_false_eq_true, t_fine, t_fails, e]
  by_cases h1 : tI s 6 = 0
  · by_cases h2 : tI s 62 = 400
    · have h3 := fH_ne (s := s) (k := 4) (pl := tI s 9) (by decide)
      have h4 : tI (fH s 4 (tI s 9)) 62 = tI s 62 := by unfold fH; split <;> simp [gT]
      simp [h1, h2, h3, bi, h4]
    · simp [h1, h2, bi]
  · simp [h1, bi]
