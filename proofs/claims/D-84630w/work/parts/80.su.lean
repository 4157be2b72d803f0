set_option maxRecDepth 100000
set_option maxHeartbeats 4000000
/-! D30: products, sums -/
section
variable {χ : Nat → Int32} {n t r : Nat} {Oa Ou : Nat → Prop} {O : Nat}
/-- a reading at a level: what is read by subC on the one side, by subT on the other -/
def SP (χ : Nat → Int32) (n t r : Nat) (Oa Ou : Nat → Prop) (O lv H D dc mc dt mt : Nat) : Prop := ∀ (vo : Nat → Nat) (Op : Nat → Prop) (E p f : Nat) (c : cS) (s : tS), cnt s 63 = lv → RP χ n t r p f vo Op Oa Ou E O c s → PX χ n t r f p vo Op Oa Ou E O c s H D (cC dc mc [eR (.ref r)] c) (cT dt mt [eR (.ref 0)] s)
theorem PX_H {f p : Nat} {vo : Nat → Nat} {Op : Nat → Prop} {E H H' D D' : Nat} {c : cS} {s : tS} {rc : cRes} {rt : tR} (hH : H ≤ H') (hD : D ≤ D') (h : PX χ n t r f p vo Op Oa Ou E O c s H D rc rt) : PX χ n t r f p vo Op Oa Ou E O c s H' D' rc rt := by
  rcases h with h | ⟨a, x, c', s', p', f', h1, h2, vo', g, W, w1, w2, w3, w4, w5, w6, w7⟩
  · left; exact h
  · right; exact ⟨a, x, c', s', p', f', h1, h2, vo', g, W, w1, w2, w3, w4, w5, TR_wkH _ _ _ _ _ _ _ _ _ _ hH hD (Nat.le_refl _) w6, w7⟩
theorem prodL (dc dt : Nat) {f0 p0 : Nat} {vo0 : Nat → Nat} {Op : Nat → Prop} {E H D lv : Nat} {c0 : cS} {s0 : tS} (hH : 2 ≤ H)
    (hsub : SP χ n t r Oa Ou O lv (H - 1) D (dc + 25) 826 (dt + 25) 55) (hR0 : ∃ p1 Op1 E1, RP χ n t r p1 f0 vo0 Op1 Oa Ou E1 O c0 s0) :
    ∀ (m p f a x : Nat) (c : cS) (s : tS), n - f ≤ m → cnt s 63 = lv → PXo χ n t r f0 p0 vo0 Op Oa Ou E O c0 s0 H D a x c s p f → PX χ n t r f0 p0 vo0 Op Oa Ou E O c0 s0 H D (fX8_product_3 (cC (dc + 25)) (.ref r) (.ref a) c) (fX7_product_3 (cT (dt + 25)) (Int32.ofNat x) s) := by
  intro m
  induction m with
  | zero =>
    intro p f a x c s hm hlv h
    have h0 := h
    obtain ⟨vo, g, W, hR, hST, hrest⟩ := h
    have hw := hR.1.1.1.1
    have hfn : f ≤ p ∧ p ≤ n := ⟨hR.1.2.1, hR.1.1.2.2.2.2.2.2.1⟩
    have htk : ¬ (tI s 8 = 5 ∧ tI s 11 = 42) := fun q => by
      have := lw_5 hR.1.2.2.2.2.2 q.1
      omega
    right
    refine ⟨a, x, c, s, p, f, ?_, ?_, h0⟩
    · rw [uX8_product_3, r_cgR, if_pos hR.2.2.2.1.1.1, hR.2.2.2.1.1.2.1, c_isSign (dc + 24) 42 hw]
      simp only [lx_sgn hR.1 (x := 42) (by decide), htk, decide_false, bi_f, rC, bB, Nat.reduceDiv, Nat.reduceLeDiff, Nat.reduceLT,  eq_self, if_true, if_false, true_and, and_true, false_and, and_false, or_true, true_or, or_false, false_or, reduceIte, reduceCtorEq, Nat.reduceEqDiff, not_true_eq_false, not_false_eq_true, r_misN, r_misR]
    · rw [uX7_product_3, t_isSign (dt + 23)]
      simp only [hR.2.1, true_and, htk, decide_false, bi_f, rT, bB, eq_self, if_true, if_false, true_and, and_true, false_and, and_false, or_true, true_or, or_false, false_or, reduceIte, Nat.reduceEqDiff, not_true_eq_false, not_false_eq_true]
  | succ m ih =>
    intro p f a x c s hm hlv h
    have h0 := h
    obtain ⟨vo, g, W, hR, hST, hrest⟩ := h
    have hw := hR.1.1.1.1
    by_cases htk : tI s 8 = 5 ∧ tI s 11 = 42
    · have eC : fX8_product_3 (cC (dc + 25)) (.ref r) (.ref a) c = bV (cC (dc + 25) 818 [eR (.ref r)] c) fun h1 => cgR h1 800 (.ref r) fun v2 => bV (cC (dc + 25) 1001 [eR v2] h1) fun h3 => cnw h3 33 fun v4 h5 => bR (cC (dc + 25) 826 [eR (.ref r)] h5) fun v7 h6 => bV (cC (dc + 25) 3300 [eR v4, eI (Int32.ofNat 13), eR (.ref a), eR v7] h6) fun h8 => fX8_product_3 (cC (dc + 25)) (.ref r) v4 h8 := by
        rw [uX8_product_3, r_cgR, if_pos hR.2.2.2.1.1.1, hR.2.2.2.1.1.2.1, c_isSign (dc + 24) 42 hw]
        simp only [lx_sgn hR.1 (x := 42) (by decide), htk, and_self, decide_true, bi_t, e10, if_false, b_I]
        rfl
      have eT : fX7_product_3 (cT (dt + 25)) (Int32.ofNat x) s = bI (cT (dt + 25) 76 [eR (.ref 0), eI (Int32.ofNat 13), eI (Int32.ofNat x)] s) fun v2 h1 => bI (cT (dt + 25) 55 [eR (.ref 0)] h1) fun v4 h3 => bV (cT (dt + 25) 49 [eR (.ref 0), eI v2, eI v4] h3) fun h5 => fX7_product_3 (cT (dt + 25)) v2 h5 := by
        rw [uX7_product_3, t_isSign (dt + 23)]
        simp only [hR.2.1, htk, and_self, decide_true, bi_t, e10, if_false, b_I]
        rfl
      rw [eC, eT]
      rcases binop dc dt 826 55 13 (by omega) hH hsub (fun s hb => F_any (dt + 23) hb) (fun v h => fX8_product_3 (cC (dc + 25)) (.ref r) v h) (fun v h => fX7_product_3 (cT (dt + 25)) v h) (fun y s hb => ⟨y, s, by rw [uX7_product_3, F_isSign (dt + 23) _ hb]; rfl, rfl, rfl⟩) h0 hR0 hlv (by rw [htk.1]; decide) with hb | ⟨a', x', c', s', p', f', g1, g2, g3, g4⟩
      · left; exact hb
      · rw [g1, g2]
        obtain ⟨vo', g', W', hR', w2, w3, w4, w5, w6, w7, w8, w9⟩ := g3
        obtain ⟨_, _, _, _, q2, q3, q4, q5, q6, q7, q8, q9⟩ := h0
        have hf' : f' ≤ p' ∧ p' ≤ n := ⟨hR'.1.2.1, hR'.1.1.2.2.2.2.2.2.1⟩
        refine ih p' f' a' x' c' s' (by omega) ?_ ⟨vo', g', W', hR', w2, w3, w4, w5, w6, w7, w8, w9⟩
        rw [w8.2.2.2.1, ← q8.2.2.2.1]; exact hlv
    · right
      refine ⟨a, x, c, s, p, f, ?_, ?_, h0⟩
      · rw [uX8_product_3, r_cgR, if_pos hR.2.2.2.1.1.1, hR.2.2.2.1.1.2.1, c_isSign (dc + 24) 42 hw]
        simp only [lx_sgn hR.1 (x := 42) (by decide), htk, decide_false, bi_f, rC, bB, Nat.reduceDiv, Nat.reduceLeDiff, Nat.reduceLT,  eq_self, if_true, if_false, true_and, and_true, false_and, and_false, or_true, true_or, or_false, false_or, reduceIte, reduceCtorEq, Nat.reduceEqDiff, not_true_eq_false, not_false_eq_true, r_misN, r_misR]
      · rw [uX7_product_3, t_isSign (dt + 23)]
        simp only [hR.2.1, true_and, htk, decide_false, bi_f, rT, bB, eq_self, if_true, if_false, true_and, and_true, false_and, and_false, or_true, true_or, or_false, false_or, reduceIte, Nat.reduceEqDiff, not_true_eq_false, not_false_eq_true]
theorem S_product (dc dt : Nat) {H D lv : Nat} (hH : 1 ≤ H) (hsub : SP χ n t r Oa Ou O lv H D (dc + 25) 826 (dt + 25) 55) :
    SP χ n t r Oa Ou O lv (H + 1) D (dc + 26) 825 (dt + 26) 54 := by
  intro vo Op E p f c s hlv hR
  show PX χ n t r f p vo Op Oa Ou E O c s (H + 1) D (cC (dc + 26) 825 [eR (.ref r)] c) (cT (dt + 26) 54 [eR (.ref 0)] s)
  rw [kX8_product, r_cck, if_pos hR.2.2.2.1.1.1, uX8_product, kX7_product, uX7_product]
  have h1 := PX_H (H' := H + 1) (Nat.le_succ H) (Nat.le_refl D) (hsub vo Op E p f c s hlv hR)
  rcases h1 with hb | ⟨a, x, c', s', p', f', h1, h2, h3⟩
  · left
    refine pB_step hb (Nat.le_refl _) (Nat.le_refl _) (fun a c' q => by rw [q]; rfl) (fun q s' q1 q2 => ?_)
    rw [q1, b_I, uX7_product_3, F_isSign (dt + 23) _ q2]
    exact ⟨q, s', rfl, rfl, rfl⟩
  · rw [h1, h2, b_R, b_I]
    refine prodL dc dt (H := H + 1) (by omega) hsub ⟨p, Op, E, hR⟩ (n - f') p' f' a x c' s' (Nat.le_refl _) ?_ h3
    obtain ⟨_, _, _, _, _, _, _, _, _, _, q8, _⟩ := h3
    rw [q8.2.2.2.1]; exact hlv
end
