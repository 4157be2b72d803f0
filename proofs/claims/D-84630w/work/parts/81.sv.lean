set_option maxRecDepth 100000
set_option maxHeartbeats 4000000
/-! D31: sums -/
section
variable {χ : Nat → Int32} {n t r : Nat} {Oa Ou : Nat → Prop} {O : Nat}
theorem F_sum3 (dt : Nat) (y : Int32) {s : tS} (hb : tI s 6 ≠ 0) : fX7_sum_3 (cT (dt + 25)) y s = some (.inl (some (eI y)), s) := by
  rw [uX7_sum_3, F_isSign (dt + 23) _ hb]
  simp only [rT, bB, eq_self, if_true, if_false, true_and, and_true, false_and, and_false, or_true, true_or, or_false, false_or, reduceIte, Nat.reduceEqDiff, not_true_eq_false, not_false_eq_true, F_isSign _ _ hb]
theorem sumL (dc dt : Nat) {f0 p0 : Nat} {vo0 : Nat → Nat} {Op : Nat → Prop} {E H D lv : Nat} {c0 : cS} {s0 : tS} (hH : 2 ≤ H)
    (hsub : SP χ n t r Oa Ou O lv (H - 1) D (dc + 25) 825 (dt + 25) 54) (hR0 : ∃ p1 Op1 E1, RP χ n t r p1 f0 vo0 Op1 Oa Ou E1 O c0 s0) :
    ∀ (m p f a x : Nat) (c : cS) (s : tS), n - f ≤ m → cnt s 63 = lv → PXo χ n t r f0 p0 vo0 Op Oa Ou E O c0 s0 H D a x c s p f → PX χ n t r f0 p0 vo0 Op Oa Ou E O c0 s0 H D (fX8_sum_3 (cC (dc + 25)) (.ref r) (.ref a) c) (fX7_sum_3 (cT (dt + 25)) (Int32.ofNat x) s) := by
  intro m
  induction m with
  | zero =>
    intro p f a x c s hm hlv h
    have h0 := h
    obtain ⟨vo, g, W, hR, hST, hrest⟩ := h
    have hw := hR.1.1.1.1
    have hfn : f ≤ p ∧ p ≤ n := ⟨hR.1.2.1, hR.1.1.2.2.2.2.2.2.1⟩
    have h5 : ¬ tI s 8 = 5 := fun q => by
      have := lw_5 hR.1.2.2.2.2.2 q
      omega
    right
    refine ⟨a, x, c, s, p, f, ?_, ?_, h0⟩
    · rw [uX8_sum_3, r_cgR, if_pos hR.2.2.2.1.1.1, hR.2.2.2.1.1.2.1, c_isSign (dc + 24) 43 hw]
      simp only [lx_sgn hR.1 (x := 43) (by decide), lx_sgn hR.1 (x := 45) (by decide), h5, false_and, decide_false, bi_f, rC, bB, Nat.reduceDiv, Nat.reduceLeDiff, Nat.reduceLT,  eq_self, if_true, if_false, true_and, and_true, false_and, and_false, or_true, true_or, or_false, false_or, reduceIte, reduceCtorEq, Nat.reduceEqDiff, not_true_eq_false, not_false_eq_true, r_misN, r_misR, hR.2.2.2.1.1.1, hR.2.2.2.1.1.2.1, c_isSign _ _ hw]
    · rw [uX7_sum_3, t_isSign (dt + 23)]
      simp only [t_isSign, h5, false_and, and_false, decide_false, bi_f, rT, bB, eq_self, if_true, if_false, true_and, and_true, false_and, and_false, or_true, true_or, or_false, false_or, reduceIte, Nat.reduceEqDiff, not_true_eq_false, not_false_eq_true]
  | succ m ih =>
    intro p f a x c s hm hlv h
    have h0 := h
    obtain ⟨vo, g, W, hR, hST, hrest⟩ := h
    have hw := hR.1.1.1.1
    have hcl := hR.2.2.2.1.1.1
    have h800 := hR.2.2.2.1.1.2.1
    have key : ∀ k : Nat, 11 ≤ k ∧ k ≤ 15 → tI s 8 = 5 → fX8_sum_3 (cC (dc + 25)) (.ref r) (.ref a) c = fX8_sum_21 (cC (dc + 25)) (.ref r) (.ref a) (Int32.ofNat k) c → fX7_sum_3 (cT (dt + 25)) (Int32.ofNat x) s = fX7_sum_19 (cT (dt + 25)) (Int32.ofNat x) (Int32.ofNat k) s →
        PX χ n t r f0 p0 vo0 Op Oa Ou E O c0 s0 H D (fX8_sum_3 (cC (dc + 25)) (.ref r) (.ref a) c) (fX7_sum_3 (cT (dt + 25)) (Int32.ofNat x) s) := by
      intro k hk htk eC eT
      rw [eC, eT, uX8_sum_21, uX7_sum_19]
      rcases binop dc dt 825 54 k hk hH hsub (fun s hb => F_product (dt + 22) hb) (fun v h => fX8_sum_3 (cC (dc + 25)) (.ref r) v h) (fun v h => fX7_sum_3 (cT (dt + 25)) v h) (fun y s hb => ⟨y, s, F_sum3 dt y hb, rfl, rfl⟩) h0 hR0 hlv (by rw [htk]; decide) with hb | ⟨a', x', c', s', p', f', g1, g2, g3, g4⟩
      · left; exact hb
      · rw [g1, g2]
        obtain ⟨vo', g', W', hR', w2, w3, w4, w5, w6, w7, w8, w9⟩ := g3
        obtain ⟨_, _, _, _, q2, q3, q4, q5, q6, q7, q8, q9⟩ := h0
        have hf' : f' ≤ p' ∧ p' ≤ n := ⟨hR'.1.2.1, hR'.1.1.2.2.2.2.2.2.1⟩
        refine ih p' f' a' x' c' s' (by omega) ?_ ⟨vo', g', W', hR', w2, w3, w4, w5, w6, w7, w8, w9⟩
        rw [w8.2.2.2.1, ← q8.2.2.2.1]; exact hlv
    by_cases h5 : tI s 8 = 5
    · by_cases h43 : tI s 11 = 43
      · refine key 11 (by omega) h5 ?_ ?_
        · rw [uX8_sum_3, r_cgR, if_pos hcl, h800, c_isSign (dc + 24) 43 hw]
          simp only [lx_sgn hR.1 (x := 43) (by decide), h5, h43, and_self, decide_true, bi_t, e10, if_false, b_I]
          rw [uX8_sum_13, r_cgR, if_pos hcl, h800, c_isSign (dc + 24) 43 hw]
          simp only [lx_sgn hR.1 (x := 43) (by decide), h5, h43, and_self, decide_true, bi_t, e10, if_false, b_I]
          rfl
        · rw [uX7_sum_3, t_isSign (dt + 23)]
          simp only [hR.2.1, h5, h43, and_self, decide_true, bi_t, e10, if_false, b_I]
          rw [uX7_sum_11, h43, if_pos rfl]
          rfl
      · by_cases h45 : tI s 11 = 45
        · refine key 12 (by omega) h5 ?_ ?_
          · rw [uX8_sum_3, r_cgR, if_pos hcl, h800, c_isSign (dc + 24) 43 hw]
            simp only [lx_sgn hR.1 (x := 43) (by decide), lx_sgn hR.1 (x := 45) (by decide), h5, h45, show ((45 : Int32) = 43) = False from by decide, and_self, and_false, decide_true, decide_false, bi_t, bi_f, e10, if_true, if_false, b_I, rC, bB, Nat.reduceDiv, Nat.reduceLeDiff, Nat.reduceLT,  eq_self, if_true, if_false, true_and, and_true, false_and, and_false, or_true, true_or, or_false, false_or, reduceIte, reduceCtorEq, Nat.reduceEqDiff, not_true_eq_false, not_false_eq_true, r_misN, r_misR, hcl, h800, c_isSign _ _ hw]
            rw [uX8_sum_13, r_cgR, if_pos hcl, h800, c_isSign (dc + 24) 43 hw]
            simp only [lx_sgn hR.1 (x := 43) (by decide), h5, h45, show ((45 : Int32) = 43) = False from by decide, and_false, decide_false, bi_f, if_true, b_I]
            rfl
          · rw [uX7_sum_3, t_isSign (dt + 23)]
            simp only [t_isSign, hR.2.1, h5, h45, show ((45 : Int32) = 43) = False from by decide, and_self, and_false, decide_true, decide_false, bi_t, bi_f, e10, if_true, if_false, b_I]
            rw [uX7_sum_11, h45, if_neg (by decide)]
            rfl
        · right
          refine ⟨a, x, c, s, p, f, ?_, ?_, h0⟩
          · rw [uX8_sum_3, r_cgR, if_pos hcl, h800, c_isSign (dc + 24) 43 hw]
            simp only [lx_sgn hR.1 (x := 43) (by decide), lx_sgn hR.1 (x := 45) (by decide), h43, h45, and_false, decide_false, bi_f, rC, bB, Nat.reduceDiv, Nat.reduceLeDiff, Nat.reduceLT,  eq_self, if_true, if_false, true_and, and_true, false_and, and_false, or_true, true_or, or_false, false_or, reduceIte, reduceCtorEq, Nat.reduceEqDiff, not_true_eq_false, not_false_eq_true, r_misN, r_misR, hcl, h800, c_isSign _ _ hw]
          · rw [uX7_sum_3, t_isSign (dt + 23)]
            simp only [t_isSign, h43, h45, and_false, decide_false, bi_f, rT, bB, eq_self, if_true, if_false, true_and, and_true, false_and, and_false, or_true, true_or, or_false, false_or, reduceIte, Nat.reduceEqDiff, not_true_eq_false, not_false_eq_true]
    · right
      refine ⟨a, x, c, s, p, f, ?_, ?_, h0⟩
      · rw [uX8_sum_3, r_cgR, if_pos hcl, h800, c_isSign (dc + 24) 43 hw]
        simp only [lx_sgn hR.1 (x := 43) (by decide), lx_sgn hR.1 (x := 45) (by decide), h5, false_and, decide_false, bi_f, rC, bB, Nat.reduceDiv, Nat.reduceLeDiff, Nat.reduceLT,  eq_self, if_true, if_false, true_and, and_true, false_and, and_false, or_true, true_or, or_false, false_or, reduceIte, reduceCtorEq, Nat.reduceEqDiff, not_true_eq_false, not_false_eq_true, r_misN, r_misR, hcl, h800, c_isSign _ _ hw]
      · rw [uX7_sum_3, t_isSign (dt + 23)]
        simp only [t_isSign, h5, false_and, and_false, decide_false, bi_f, rT, bB, eq_self, if_true, if_false, true_and, and_true, false_and, and_false, or_true, true_or, or_false, false_or, reduceIte, Nat.reduceEqDiff, not_true_eq_false, not_false_eq_true]
theorem S_sum (dc dt : Nat) {H D lv : Nat} (hH : 1 ≤ H) (hsub : SP χ n t r Oa Ou O lv H D (dc + 25) 825 (dt + 25) 54) : SP χ n t r Oa Ou O lv (H + 1) D (dc + 26) 824 (dt + 26) 53 := by
  intro vo Op E p f c s hlv hR
  rw [kX8_sum, r_cck, if_pos hR.2.2.2.1.1.1, uX8_sum, kX7_sum, uX7_sum]
  have h1 := PX_H (H' := H + 1) (Nat.le_succ H) (Nat.le_refl D) (hsub vo Op E p f c s hlv hR)
  rcases h1 with hb | ⟨a, x, c', s', p', f', h1, h2, h3⟩
  · left
    refine pB_step hb (Nat.le_refl _) (Nat.le_refl _) (fun a c' q => by rw [q]; rfl) (fun q s' q1 q2 => ?_)
    rw [q1, b_I, F_sum3 dt q q2]
    exact ⟨q, s', rfl, rfl, rfl⟩
  · rw [h1, h2, b_R, b_I]
    refine sumL dc dt (H := H + 1) (by omega) hsub ⟨p, Op, E, hR⟩ (n - f') p' f' a x c' s' (Nat.le_refl _) ?_ h3
    obtain ⟨_, _, _, _, _, _, _, _, _, _, q8, _⟩ := h3
    rw [q8.2.2.2.1]; exact hlv
/-- a comparison, or a sum alone -/
theorem S_cmp (dc dt : Nat) {H D lv : Nat} (hH : 1 ≤ H) (hsub : SP χ n t r Oa Ou O lv H D (dc + 25) 824 (dt + 25) 53) :
    ∀ (vo : Nat → Nat) (Op : Nat → Prop) (E p f : Nat) (c : cS) (s : tS), cnt s 63 = lv → RP χ n t r p f vo Op Oa Ou E O c s → ¬ (tI s 8 = 2 ∧ (tI s 11 = 3 ∨ tI s 11 = 5 ∨ tI s 11 = 8)) → PX χ n t r f p vo Op Oa Ou E O c s (H + 1) D (cC (dc + 26) 823 [eR (.ref r)] c) (cT (dt + 26) 44 [eR (.ref 0)] s) := by
  intro vo Op E p f c s hlv hR hkey
  have k3 : ∀ j : Int32, j = 3 ∨ j = 5 ∨ j = 8 → ¬ (tI s 6 = 0 ∧ tI s 8 = 2 ∧ tI s 11 = j) := fun j hj q => hkey ⟨q.2.1, by rw [q.2.2]; exact hj⟩
  rw [kX8_compared, r_cck, if_pos hR.2.2.2.1.1.1, uX8_compared, kX7_wholeE, uX7_wholeE]
  simp only [t_isKey, k3 3 (by simp), k3 5 (by simp), k3 8 (by simp), decide_false, bi_f, if_true, b_I]
  have h1 := PX_H (H' := H + 1) (Nat.le_succ H) (Nat.le_refl D) (hsub vo Op E p f c s hlv hR)
  rcases h1 with hb | ⟨a, x, c', s', p', f', h1, h2, h3⟩
  · left
    refine pB_step hb (Nat.le_refl _) (Nat.le_refl _) (fun a c' q => by rw [q]; rfl) (fun q s' q1 q2 => ?_)
    rw [q1, b_I]
    simp only [F_isSign _ _ q2, rT, bB, eq_self, if_true, if_false, true_and, and_true, false_and, and_false, or_true, true_or, or_false, false_or, reduceIte, Nat.reduceEqDiff, not_true_eq_false, not_false_eq_true]
    exact ⟨q, s', rfl, rfl, rfl⟩
  · rw [h1, h2, b_R, b_I]
    have h30 := h3
    obtain ⟨vo', g, W, hR', q2, q3, q4, q5, q6, q7, q8, q9⟩ := h3
    have hw := hR'.1.1.1.1
    have hcl := hR'.2.2.2.1.1.1
    have h800 := hR'.2.2.2.1.1.2.1
    have hlv' : cnt s' 63 = lv := by rw [q8.2.2.2.1]; exact hlv
    have key : ∀ k : Nat, 11 ≤ k ∧ k ≤ 15 → tI s' 8 = 5 → PX χ n t r f p vo Op Oa Ou E O c s (H + 1) D (fX8_compared_23 (cC (dc + 25)) (.ref r) (.ref a) (Int32.ofNat k) c') (fX7_wholeE_40 (cT (dt + 25)) (Int32.ofNat x) (Int32.ofNat k) s') := by
      intro k hk htk
      rw [uX8_compared_23, uX7_wholeE_40]
      rcases binop dc dt 824 53 k hk (H := H + 1) (by omega) hsub (fun s hb => F_sum (dt + 21) hb) (fun v h => some (.inl (some (eR v)), h)) (fun v h => some (.inl (some (eI v)), h)) (fun y s hb => ⟨y, s, rfl, rfl, rfl⟩) h30 ⟨p, Op, E, hR⟩ hlv' (by rw [htk]; decide) with hb | ⟨a', x', c2, s2, p2, f2, g1, g2, g3, g4⟩
      · left; exact hb
      · right; exact ⟨a', x', c2, s2, p2, f2, g1, g2, g3⟩
    rw [r_cgR, if_pos hcl, h800, c_isSign (dc + 24) 60 hw, b_I, t_isSign (dt + 23), b_I]
    by_cases h5 : tI s' 8 = 5
    · by_cases h60 : tI s' 11 = 60
      · have := key 14 (by omega) h5
        simp only [lx_sgn hR'.1 (x := 60) (by decide), hR'.2.1, h5, h60, and_self, decide_true, bi_t, e10, if_false]
        rw [uX8_compared_15, r_cgR, if_pos hcl, h800, c_isSign (dc + 24) 60 hw, b_I, uX7_wholeE_32, h60, if_pos rfl]
        simp only [lx_sgn hR'.1 (x := 60) (by decide), h5, h60, and_self, decide_true, bi_t, e10, if_false]
        exact this
      · by_cases h257 : tI s' 11 = 257
        · have := key 15 (by omega) h5
          simp only [lx_sgn hR'.1 (x := 60) (by decide), hR'.2.1, h60, and_false, decide_false, bi_f, if_true]
          rw [r_cgR, if_pos hcl, h800, c_isSign (dc + 24) 15677 hw, b_I, t_isSign (dt + 23), b_I]
          simp only [lx_ali hR'.1, hR'.2.1, h5, h257, and_self, decide_true, bi_t, e10, if_false]
          rw [uX8_compared_15, r_cgR, if_pos hcl, h800, c_isSign (dc + 24) 60 hw, b_I, uX7_wholeE_32, if_neg h60]
          simp only [lx_sgn hR'.1 (x := 60) (by decide), h60, and_false, decide_false, bi_f, if_true]
          exact this
        · right
          refine ⟨a, x, c', s', p', f', ?_, ?_, h30⟩
          · simp only [lx_sgn hR'.1 (x := 60) (by decide), h60, and_false, decide_false, bi_f, if_true]
            rw [r_cgR, if_pos hcl, h800, c_isSign (dc + 24) 15677 hw, b_I]
            simp only [lx_ali hR'.1, h257, and_false, decide_false, bi_f, if_true]
          · simp only [h60, and_false, decide_false, bi_f, if_true]
            rw [t_isSign (dt + 23), b_I]
            simp only [h257, and_false, decide_false, bi_f, if_true]
    · right
      refine ⟨a, x, c', s', p', f', ?_, ?_, h30⟩
      · simp only [lx_sgn hR'.1 (x := 60) (by decide), h5, false_and, decide_false, bi_f, if_true]
        rw [r_cgR, if_pos hcl, h800, c_isSign (dc + 24) 15677 hw, b_I]
        simp only [lx_ali hR'.1, h5, false_and, decide_false, bi_f, if_true]
      · simp only [h5, false_and, and_false, decide_false, bi_f, if_true]
        rw [t_isSign (dt + 23), b_I]
        simp only [h5, false_and, and_false, decide_false, bi_f, if_true]
end
