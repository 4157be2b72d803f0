set_option maxRecDepth 100000
set_option maxHeartbeats 1000000
/-! D5: the component's patterns -/
theorem csAL_f (c : cS) (a j : Nat) (v : Int64) : csAL c a j v = cfAL c a (fun i => if i = j then v else cAL c a i) := by
  unfold csAL cfAL cAL
  congr
  funext b i
  by_cases e : b = a
  · subst e; simp
  · simp [e]
theorem self_fAL (c : cS) (a : Nat) : cfAL c a (cAL c a) = c := by
  unfold cfAL cAL
  congr 5
  funext b
  by_cases e : b = a
  · subst e; simp
  · simp [e]
theorem o_fAL (c : cS) (a : Nat) (F G : Nat → Int64) : cfAL (cfAL c a F) a G = cfAL c a G := by
  unfold cfAL
  simp only
  congr
  funext b
  by_cases e : b = a <;> simp [e]
theorem w_fAL_I (c : cS) (a x b : Nat) (F : Nat → Int64) (v : Int32) : cfAL (csI c x b v) a F = csI (cfAL c a F) x b v := rfl
theorem WX_fAL {χ : Nat → Int32} {n w t a : Nat} {c : cS} {F : Nat → Int64} (h : WX χ n w t c) : WX χ n w t (cfAL c a F) := h
/-- steps of a path -/
def xP (χ : Nat → Int32) (n m : Nat) : Nat → Nat → Bool → List (List Int32) → Nat × Bool × List (List Int32)
  | 0, p, b, l => (p, b, l)
  | g + 1, p, b, l => if χ p = 47 ∧ aA (χ (p + 1)) = true then xP χ n m g (xW χ n (p + 1)) (b && decide (xW χ n (p + 1) - (p + 1) ≤ 6) && decide (l.length < m)) (l ++ [xSg χ (p + 1) (xW χ n (p + 1))]) else (p, b, l)
theorem xW_lt {χ : Nat → Int32} {n p : Nat} (h8 : ∀ k, n ≤ k → χ k = -1) (h : aA (χ p) = true) (hn : 0 < n) : p < xW χ n p ∧ xW χ n p ≤ n ∧ p < n := by
  have hpn : p < n := by
    apply Nat.lt_of_not_le
    intro r
    rw [h8 p r, aA_m1] at h
    cases h
  obtain ⟨m, rfl⟩ : ∃ m, n = m + 1 := ⟨n - 1, by omega⟩
  have e : xW χ (m + 1) p = xW χ m (p + 1) := by simp [xW, h]
  have := xW_le (χ := χ) h8 m (p + 1) (by omega)
  rw [e]
  omega
theorem c_ploop {χ : Nat → Int32} {n w t : Nat} (d : Nat) (x1 x2 x3 : Int32) : ∀ (g p : Nat) (l : List Int32) (c : cS), WX χ n w t c → n ≤ p + g → p ≤ n → cI c 1003 w = Int32.ofNat p →
    fX10_path_42 (cC (d + 1)) (.ref w) x1 x2 x3 (p8 l) c = fX10_path_42 (cC (d + 1)) (.ref w) x1 x2 x3 (p8 (l ++ xSg χ p (xW χ g p))) (csI c 1003 w (Int32.ofNat (xW χ g p))) := by
  intro g
  induction g with
  | zero =>
    intro p l c hW hf hp hat
    rw [xW, xSg_nil, List.append_nil, ← hat, self_I]
  | succ g ih =>
    intro p l c hW hf hp hat
    by_cases ha : aA (χ p) = true
    · have hW0 := hW
      obtain ⟨h1, h2, h3, h4, h5, h6, h7, h8⟩ := hW
      have hpn : p < n := by
        apply Nat.lt_of_not_le
        intro r
        rw [h8 p r, aA_m1] at ha
        cases ha
      have hs := c_see d hW0 (k := p) (by omega)
      have e1 : fX10_path_54 (cC (d + 1)) (.ref w) x1 x2 x3 (p8 l) c = fX10_path_42 (cC (d + 1)) (.ref w) x1 x2 x3 (p8 (l ++ [χ p])) (csI c 1003 w (Int32.ofNat (p + 1))) := by
        rw [uX10_path_54]
        simp only [h1, hat, hs, rC, bB, Nat.reduceDiv, Nat.reduceLeDiff, Nat.reduceLT,  eq_self, if_true, if_false, true_and, and_true, false_and, and_false, or_true, true_or, or_false, false_or, reduceIte, reduceCtorEq, Nat.reduceEqDiff, not_true_eq_false, not_false_eq_true, r_misN, r_misR, gC]
        rw [show (1 : Int32) = Int32.ofNat 1 from rfl, z_add, p8_snoc]
      have e2 : fX10_path_42 (cC (d + 1)) (.ref w) x1 x2 x3 (p8 l) c = fX10_path_54 (cC (d + 1)) (.ref w) x1 x2 x3 (p8 l) c := by
        rw [uX10_path_42]
        simp only [h1, hat, hs, c_isL, c_isD, rC, bB, Nat.reduceDiv, Nat.reduceLeDiff, Nat.reduceLT,  eq_self, if_true, if_false, true_and, and_true, false_and, and_false, or_true, true_or, or_false, false_or, reduceIte, reduceCtorEq, Nat.reduceEqDiff, not_true_eq_false, not_false_eq_true, r_misN, r_misR]
        unfold aA at ha
        cases q1 : aL (χ p) <;> cases q2 : aD (χ p) <;> simp_all [bi]
      have hq := xW_le (χ := χ) h8 g (p + 1) (by omega)
      rw [e2, e1, ih (p + 1) (l ++ [χ p]) _ (WX_I (by decide) hW0) (by omega) (by omega) (by simp [gC])]
      have e3 : xW χ (g + 1) p = xW χ g (p + 1) := by simp [xW, ha]
      rw [e3, xSg_cons χ (show p < xW χ g (p + 1) by omega)]
      simp only [nC, List.append_assoc, List.cons_append, List.nil_append]
    · have e3 : xW χ (g + 1) p = p := by simp [xW, ha]
      rw [e3, xSg_nil, List.append_nil, ← hat, self_I]
theorem nthD_snoc {α : Type} (d : α) (l : List α) (a : α) (i : Nat) : nthD d (l ++ [a]) i = if i = l.length then a else nthD d l i := by
  induction l generalizing i with
  | nil => cases i <;> simp [nthD]
  | cons x l ih =>
    cases i with
    | zero => simp [nthD]
    | succ i =>
      simp only [List.cons_append, nthD, ih, List.length_cons]
      by_cases e : i = l.length <;> simp [e]
theorem c_path7 {χ : Nat → Int32} {n w t st m : Nat} (d : Nat) (hm : m ≤ 5) : ∀ (g p : Nat) (b : Bool) (l : List (List Int32)) (c : cS), WX χ n w t c → cR c 1009 w = .ref st → cCl c st = 6009 → cLen c st = 6 → cI c 1002 w = Int32.ofNat m →
    n ≤ p + g → p ≤ n → cI c 1003 w = Int32.ofNat p → l.length ≤ p → (b = true → l.length ≤ m ∧ ∀ i, i < l.length → cAL c st i = p8 (nthD [] l i)) →
    ∃ F, fX10_path_7 (cC (d + 1)) (.ref w) (Int32.ofNat l.length) (bi b) c = fX10_path_7 (cC (d + 1)) (.ref w) (Int32.ofNat (xP χ n m g p b l).2.2.length) (bi (xP χ n m g p b l).2.1) (csI (cfAL c st F) 1003 w (Int32.ofNat (xP χ n m g p b l).1)) ∧
      ((xP χ n m g p b l).2.1 = true → (xP χ n m g p b l).2.2.length ≤ m ∧ ∀ i, i < (xP χ n m g p b l).2.2.length → F i = p8 (nthD [] (xP χ n m g p b l).2.2 i)) ∧ p ≤ (xP χ n m g p b l).1 ∧ (xP χ n m g p b l).1 ≤ n ∧ (xP χ n m g p b l).2.2.length ≤ (xP χ n m g p b l).1 ∧ ¬ (χ (xP χ n m g p b l).1 = 47 ∧ aA (χ ((xP χ n m g p b l).1 + 1)) = true) := by
  intro g
  induction g with
  | zero =>
    intro p b l c hW s1 s2 s3 s4 hf hp hat hlen hst
    have h8 := hW.2.2.2.2.2.2.2
    refine ⟨cAL c st, ?_, ?_, Nat.le_refl _, hp, hlen, ?_⟩
    · simp only [xP]
      rw [self_fAL, ← hat, self_I]
    · exact hst
    · simp only [xP]
      rw [h8 p (by omega)]
      intro q
      exact absurd q.1 (by decide)
  | succ g ih =>
    intro p b l c hW s1 s2 s3 s4 hf hp hat hlen hst
    have hW0 := hW
    obtain ⟨h1, h2, h3, h4, h5, h6, h7, h8⟩ := hW
    by_cases ha : χ p = 47 ∧ aA (χ (p + 1)) = true
    · have hpn : p < n := by
        apply Nat.lt_of_not_le
        intro r
        rw [h8 p r] at ha
        exact absurd ha.1 (by decide)
      obtain ⟨w1, w2, w3⟩ := xW_lt h8 ha.2 (by omega)
      have e0 : xP χ n m (g + 1) p b l = xP χ n m g (xW χ n (p + 1)) (b && decide (xW χ n (p + 1) - (p + 1) ≤ 6) && decide (l.length < m)) (l ++ [xSg χ (p + 1) (xW χ n (p + 1))]) := by
        simp [xP, ha]
      rw [e0]
      have we := xW_end (χ := χ) h8 n (p + 1) (by omega)
      have pl := c_ploop (χ := χ) (n := n) (t := t) d (Int32.ofNat l.length) (bi b) (Int32.ofNat (p + 1)) n (p + 1) [] (csI c 1003 w (Int32.ofNat (p + 1))) (WX_I (by decide) hW0) (by omega) (by omega) (by simp [gC])
      rw [List.nil_append, o_I] at pl
      generalize xW χ n (p + 1) = q at w1 w2 we pl ⊢
      have hs := c_see d hW0 (k := p) (by omega)
      have hs1 := c_see d hW0 (k := p + 1) (by omega)
      have e1 : fX10_path_7 (cC (d + 1)) (.ref w) (Int32.ofNat l.length) (bi b) c = fX10_path_29 (cC (d + 1)) (.ref w) (Int32.ofNat l.length) (bi b) c := by
        rw [uX10_path_7]
        simp only [h1, hat, hs, rC, bB, Nat.reduceDiv, Nat.reduceLeDiff, Nat.reduceLT,  eq_self, if_true, if_false, true_and, and_true, false_and, and_false, or_true, true_or, or_false, false_or, reduceIte, reduceCtorEq, Nat.reduceEqDiff, not_true_eq_false, not_false_eq_true, r_misN, r_misR, ha.1]
        rw [show (1 : Int32) = Int32.ofNat 1 from rfl, z_add, hs1]
        have hb := ha.2
        unfold aA at hb
        simp only [rC, bB, Nat.reduceDiv, Nat.reduceLeDiff, Nat.reduceLT,  eq_self, if_true, if_false, true_and, and_true, false_and, and_false, or_true, true_or, or_false, false_or, reduceIte, reduceCtorEq, Nat.reduceEqDiff, not_true_eq_false, not_false_eq_true, r_misN, r_misR, c_isL, h1, hat]
        rw [z_add, hs1]
        simp only [rC, bB, Nat.reduceDiv, Nat.reduceLeDiff, Nat.reduceLT,  eq_self, if_true, if_false, true_and, and_true, false_and, and_false, or_true, true_or, or_false, false_or, reduceIte, reduceCtorEq, Nat.reduceEqDiff, not_true_eq_false, not_false_eq_true, r_misN, r_misR, c_isD]
        cases q1 : aL (χ (p + 1)) <;> cases q2 : aD (χ (p + 1)) <;> simp_all [bi]
      have e2 : fX10_path_29 (cC (d + 1)) (.ref w) (Int32.ofNat l.length) (bi b) c = fX10_path_42 (cC (d + 1)) (.ref w) (Int32.ofNat l.length) (bi b) (Int32.ofNat (p + 1)) (p8 []) (csI c 1003 w (Int32.ofNat (p + 1))) := by
        rw [uX10_path_29]
        simp only [h1, hat, rC, bB, Nat.reduceDiv, Nat.reduceLeDiff, Nat.reduceLT,  eq_self, if_true, if_false, true_and, and_true, false_and, and_false, or_true, true_or, or_false, false_or, reduceIte, reduceCtorEq, Nat.reduceEqDiff, not_true_eq_false, not_false_eq_true, r_misN, r_misR]
        rw [show (1 : Int32) = Int32.ofNat 1 from rfl, z_add]
        rfl
      have hsq := c_see (χ := χ) (n := n) (t := t) d (c := csI c 1003 w (Int32.ofNat q)) (WX_I (by decide) hW0) (k := q) (by omega)
      have we1 : aL (χ q) = false := by unfold aA at we; cases r : aL (χ q) <;> simp_all
      have we2 : aD (χ q) = false := by unfold aA at we; cases r : aD (χ q) <;> simp_all
      have e3 : fX10_path_42 (cC (d + 1)) (.ref w) (Int32.ofNat l.length) (bi b) (Int32.ofNat (p + 1)) (p8 (xSg χ (p + 1) q)) (csI c 1003 w (Int32.ofNat q)) = fX10_path_86 (cC (d + 1)) (.ref w) (Int32.ofNat l.length) (p8 (xSg χ (p + 1) q)) (bi (b && decide (q - (p + 1) ≤ 6) && decide (l.length < m))) (csI c 1003 w (Int32.ofNat q)) := by
        rw [uX10_path_42]
        simp only [h1, hsq, c_isL, c_isD, we1, we2, bi_f, s4, rC, bB, Nat.reduceDiv, Nat.reduceLeDiff, Nat.reduceLT,  eq_self, if_true, if_false, true_and, and_true, false_and, and_false, or_true, true_or, or_false, false_or, reduceIte, reduceCtorEq, Nat.reduceEqDiff, not_true_eq_false, not_false_eq_true, r_misN, r_misR, gC]
        rw [z_sub (by omega), show (6 : Int32) = Int32.ofNat 6 from rfl]
        simp only [z_lt (show 6 < 2147483648 by omega) (show q - (p + 1) < 2147483648 by omega), z_lt (show l.length < 2147483648 by omega) (show m < 2147483648 by omega)]
        cases b
        · simp [bi]
        · by_cases r1 : 6 < q - (p + 1)
          · have r2 : ¬ (q - (p + 1) ≤ 6) := by omega
            simp [bi, r1, r2]
          · have r2 : q - (p + 1) ≤ 6 := by omega
            by_cases r3 : l.length < m <;> simp [bi, r1, r2, r3]
      rw [e1, e2, pl, e3]
      generalize hb' : (b && decide (q - (p + 1) ≤ 6) && decide (l.length < m)) = b'
      have e4 : ∃ F, fX10_path_86 (cC (d + 1)) (.ref w) (Int32.ofNat l.length) (p8 (xSg χ (p + 1) q)) (bi b') (csI c 1003 w (Int32.ofNat q)) = fX10_path_7 (cC (d + 1)) (.ref w) (Int32.ofNat (l ++ [xSg χ (p + 1) q]).length) (bi b') (csI (cfAL c st F) 1003 w (Int32.ofNat q)) ∧ (b' = true → (l ++ [xSg χ (p + 1) q]).length ≤ m ∧ ∀ i, i < (l ++ [xSg χ (p + 1) q]).length → F i = p8 (nthD [] (l ++ [xSg χ (p + 1) q]) i)) := by
        rw [uX10_path_86, show (1 : Int32) = Int32.ofNat 1 from rfl, z_add, show (l ++ [xSg χ (p + 1) q]).length = l.length + 1 from by simp]
        cases b'
        · refine ⟨cAL c st, ?_, by intro r; cases r⟩
          rw [self_fAL]
          simp only [bi_f, if_true]
        · have hb : b = true ∧ l.length < m := by
            cases b <;> simp_all
          obtain ⟨hst1, hst2⟩ := hst hb.1
          refine ⟨fun i => if i = l.length then p8 (xSg χ (p + 1) q) else cAL c st i, ?_, ?_⟩
          · simp only [bi_t, show ((1 : Int32) = 0) = False from by decide, if_false, h1, s1, rC, bB, Nat.reduceDiv, Nat.reduceLeDiff, Nat.reduceLT,  eq_self, if_true, if_false, true_and, and_true, false_and, and_false, or_true, true_or, or_false, false_or, reduceIte, reduceCtorEq, Nat.reduceEqDiff, not_true_eq_false, not_false_eq_true, r_misN, r_misR, gC]
            rw [csaL_of (by simp only [gC]; rw [s2]; rfl) (by simp only [gC]; omega) (by omega), csAL_f]
            rfl
          · intro _
            refine ⟨by omega, fun i hi => ?_⟩
            rw [nthD_snoc]
            by_cases r : i = l.length
            · simp [r]
            · simp only [r, if_false]
              exact hst2 i (by omega)
      obtain ⟨F, e5, e6⟩ := e4
      rw [e5]
      obtain ⟨G, g1, g2, g3, g4, g5, g6⟩ := ih q b' (l ++ [xSg χ (p + 1) q]) (csI (cfAL c st F) 1003 w (Int32.ofNat q)) (WX_I (by decide) (WX_fAL hW0)) s1 s2 s3 s4 (by omega) (by omega) (by simp [gC]) (by simp; omega) (by
        intro r
        obtain ⟨r1, r2⟩ := e6 r
        refine ⟨r1, fun i hi => ?_⟩
        rw [← r2 i hi]
        simp [gC])
      refine ⟨G, ?_, g2, by omega, g4, g5, g6⟩
      rw [g1, w_fAL_I, o_fAL, o_I]
    · have e3 : xP χ n m (g + 1) p b l = (p, b, l) := by simp [xP, ha]
      rw [e3]
      refine ⟨cAL c st, ?_, hst, Nat.le_refl _, hp, hlen, ha⟩
      simp only
      rw [self_fAL, ← hat, self_I]
