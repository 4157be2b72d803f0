set_option maxRecDepth 100000
set_option maxHeartbeats 4000000
/-! D32: an E begins -/
section
variable {χ : Nat → Int32} {n t r p f : Nat} {Oa Ou : Nat → Prop} {O : Nat} {c : cS} {s : tS}
/-- where no prefix begins the component throws -/
theorem C_nob (d : Nat) (hS : RSt r c) (hL : LX χ n (r + 16) t 4 (r + 19) (r + 17) p f c s) (hb : bPre s = false) : cC (d + 30) 826 [eR (.ref r)] c = some (.inr (.ref (cNx c)), wH c 1 (Int32.ofNat f)) := by
  have hw := hL.1.1.1
  have hl := hL.1.2.2.2.2.1.1
  have hcl := hS.1
  have h800 := hS.2.1
  have h4 : cI c 1004 (r + 16) = tI s 8 := hL.2.2.2.2.1
  have h5f : cI c 1005 (r + 16) = Int32.ofNat f := hL.2.2.1
  unfold bPre at hb
  rw [decide_eq_false_iff_not] at hb
  simp only [not_or] at hb
  obtain ⟨b1, b3, b5, b2⟩ := hb
  have nk : ∀ j : Int32, j ∈ ([10, 11, 12, 13, 14, 15, 16, 17, 18, 19, 20, 21, 22] : List Int32) → ¬ (tI s 8 = 2 ∧ tI s 11 = j) := fun j hj q => b2 ⟨q.1, by rw [q.2]; exact hj⟩
  have n123 : ¬ (tI s 8 = 5 ∧ tI s 11 = 123) := fun q => b5 ⟨q.1, Or.inl q.2⟩
  have n40 : ¬ (tI s 8 = 5 ∧ tI s 11 = 40) := fun q => b5 ⟨q.1, Or.inr q.2⟩
  have eatom : cC (d + 28) 832 [eR (.ref r)] c = some (.inr (.ref (cNx c)), wH c 1 (Int32.ofNat f)) := by
    have m0 := c_must (d + 13) false 1 hcl h800 hw hl
    have m1 := c_must (d + 13) true 1 hcl h800 hw hl
    rw [bi_f] at m0
    rw [bi_t] at m1
    have s123 := c_isSign (d + 26) 123 hw
    simp only [lx_sgn hL (x := 123) (by decide), n123, decide_false, bi_f] at s123
    have s40 := c_passE (d + 13) 40 hw
    simp only [lx_sgn hL (x := 40) (by decide), n40, if_false] at s40
    rw [kX8_atom, r_cck, if_pos hcl, uX8_atom]
    simp only [hcl, h800, hw, h4, b1, b3, s123, s40, rC, bB, Nat.reduceDiv, Nat.reduceLeDiff, Nat.reduceLT,  eq_self, if_true, if_false, true_and, and_true, false_and, and_false, or_true, true_or, or_false, false_or, reduceIte, reduceCtorEq, Nat.reduceEqDiff, not_true_eq_false, not_false_eq_true, r_misN, r_misR]
    by_cases h2 : tI s 8 = 2
    · rw [if_pos h2, uX8_atom_71, m1]
      obtain ⟨_, j, hj, e1, e2, _⟩ := lw_2 hL.2.2.2.2.2 h2
      have hj10 : j < 10 := by
        apply Nat.lt_of_not_le
        intro q
        apply b2
        refine ⟨h2, ?_⟩
        rw [e2]
        have : ∀ j, j < 23 → 10 ≤ j → Int32.ofNat j ∈ ([10, 11, 12, 13, 14, 15, 16, 17, 18, 19, 20, 21, 22] : List Int32) := by decide
        exact this j hj q
      have hne : ∀ j, j < 10 → (Int32.ofNat j = 12) = False ∧ (Int32.ofNat j = 12 + 1) = False ∧ (Int32.ofNat j = 12 + 1 + 1) = False ∧ (Int32.ofNat j = 12 + 1 + 1 + 1) = False ∧ (Int32.ofNat j = 12 + 1 + 1 + 1 + 1) = False ∧ (Int32.ofNat j = 12 + 1 + 1 + 1 + 1 + 1) = False ∧ (Int32.ofNat j = 12 + 1 + 1 + 1 + 1 + 1 + 1) = False := by decide
      obtain ⟨g1, g2, g3, g4, g5, g6, g7⟩ := hne j hj10
      simp only [if_true, hcl, h800, hw, e1, g1, g2, g3, g4, g5, g6, g7, rC, bB, Nat.reduceDiv, Nat.reduceLeDiff, Nat.reduceLT,  eq_self, if_true, if_false, true_and, and_true, false_and, and_false, or_true, true_or, or_false, false_or, reduceIte, reduceCtorEq, Nat.reduceEqDiff, not_true_eq_false, not_false_eq_true, r_misN, r_misR, c_throw (d + 14) hw hl, h5f]
    · rw [if_neg h2, uX8_atom_71, m0]
      simp only [Bool.false_eq_true, if_false, b_Vx, h5f]
  have epost : cC (d + 29) 831 [eR (.ref r)] c = some (.inr (.ref (cNx c)), wH c 1 (Int32.ofNat f)) := by
    rw [kX8_postfix, r_cck, if_pos hcl, uX8_postfix, eatom, b_Rx]
  have e29 : fX8_prefix_29 (cC (d + 29)) (.ref r) 0 c = some (.inr (.ref (cNx c)), wH c 1 (Int32.ofNat f)) := by
    rw [uX8_prefix_29, if_pos rfl, epost, b_Rx]
  have s10 := c_isKey (d + 28) 10 hw
  simp only [lx_key hL, nk 10 (by decide), decide_false, bi_f] at s10
  have s11 := c_isKey (d + 28) 11 hw
  simp only [lx_key hL, nk 11 (by decide), decide_false, bi_f] at s11
  rw [kX8_prefix, r_cck, if_pos hcl, uX8_prefix]
  simp only [hcl, h800, hw, h4, s10, s11, rC, bB, Nat.reduceDiv, Nat.reduceLeDiff, Nat.reduceLT,  eq_self, if_true, if_false, true_and, and_true, false_and, and_false, or_true, true_or, or_false, false_or, reduceIte, reduceCtorEq, Nat.reduceEqDiff, not_true_eq_false, not_false_eq_true, r_misN, r_misR]
  by_cases h2 : tI s 8 = 2
  · obtain ⟨_, j, hj, e1, e2, _⟩ := lw_2 hL.2.2.2.2.2 h2
    have hj19 : j < 19 := by
      apply Nat.lt_of_not_le
      intro q
      apply b2
      refine ⟨h2, ?_⟩
      rw [e2]
      have : ∀ j, j < 23 → 19 ≤ j → Int32.ofNat j ∈ ([10, 11, 12, 13, 14, 15, 16, 17, 18, 19, 20, 21, 22] : List Int32) := by decide
      exact this j hj q
    rw [if_pos h2, e1, show (19 : Int32) = Int32.ofNat 19 from rfl]
    simp only [z_lt (show j < 2147483648 by omega) (show 19 < 2147483648 by omega), hj19, if_true]
    exact e29
  · rw [if_neg h2]
    exact e29
theorem C_nobE (d : Nat) (hS : RSt r c) (hL : LX χ n (r + 16) t 4 (r + 19) (r + 17) p f c s) (hb : bPre s = false) : cC (d + 33) 823 [eR (.ref r)] c = some (.inr (.ref (cNx c)), wH c 1 (Int32.ofNat f)) := by
  have hcl := hS.1
  rw [kX8_compared, r_cck, if_pos hcl, uX8_compared, kX8_sum, r_cck, if_pos hcl, uX8_sum, kX8_product, r_cck, if_pos hcl, uX8_product, C_nob d hS hL hb]
  simp only [b_Rx]
/-- prefixes anywhere -/
theorem S_any (dc dt : Nat) {H D lv : Nat} (hsub : ∀ (vo : Nat → Nat) (Op : Nat → Prop) (E p f : Nat) (c : cS) (s : tS), cnt s 63 = lv → RP χ n t r p f vo Op Oa Ou E O c s → bPre s = true → PX χ n t r f p vo Op Oa Ou E O c s H D (cC (dc + 30) 826 [eR (.ref r)] c) (cT (dt + 30) 56 [eR (.ref 0)] s)) : SP χ n t r Oa Ou O lv H D (dc + 30) 826 (dt + 31) 55 := by
  intro vo Op E p f c s hlv hR
  rw [kX7_anyPrefix, uX7_anyPrefix]
  simp only [t_fine, t_bPre, hR.2.1, decide_true, bi_t, e10, if_false, b_I]
  cases hb : bPre s
  · left
    rw [C_nob dc hR.2.2.2.1.1 hR.1 hb]
    obtain ⟨y1, y2, y3, y4, y5⟩ := lx_mis hR.1 hR.2.1 1 (by decide)
    have y6 : tI (fH s 1 (if tI s 8 = 0 then tI s 4 else tI s 9)) 6 ≠ 0 := by rw [y2]; decide
    rw [hR.1.2.2.1] at y1
    refine ⟨_, _, 0, fH s 1 (if tI s 8 = 0 then tI s 4 else tI s 9), 1, Int32.ofNat f, rfl, ?_, y1, y2, y3, by decide, by rw [(wH_nx _ _ _).1]; omega, by rw [(wH_nx _ _ _).2]; omega⟩
    simp only [bi_f, if_true, t_misfit, b_V, uX7_anyPrefix_8, F_fine _ y6, b_I]
  · simp only [bi_t, e10, if_false, uX7_anyPrefix_8, t_fine, hR.2.1, decide_true, b_I]
    have h1 := hsub vo Op E p f c s hlv hR hb
    rcases h1 with hb | ⟨a, x, c', s', p', f', h1, h2, h3⟩
    · left
      refine pB_step hb (Nat.le_refl _) (Nat.le_refl _) (fun a c' q => q) (fun q s' q1 q2 => ?_)
      rw [q1, b_I]
      exact ⟨q, s', rfl, rfl, rfl⟩
    · right
      exact ⟨a, x, c', s', p', f', h1, by rw [h2, b_I], h3⟩
end
