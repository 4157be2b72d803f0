set_option maxRecDepth 100000
set_option maxHeartbeats 1000000
/-! D9: the reference's signs and patterns -/
theorem t_sign {χ : Nat → Int32} {n f k : Nat} (d : Nat) {s : tS} (hX : TX χ n s) (hf : f < n) (hto : tI s 10 = Int32.ofNat f) (hfr : tI s 9 = Int32.ofNat f) (hk : k < 256) :
    cT (d + 4) 19 [eR (.ref 0), eI (Int32.ofNat k)] s = some (.inl none, if two (Int32.ofNat k) (χ (f + 1)) = true then tsI (tsI (tsI (tsI (tsI s 10 (Int32.ofNat (f + 1))) 8 5) 11 (Int32.ofNat k)) 11 (if Int32.ofNat k = 58 then 256 else 257)) 10 (Int32.ofNat (f + 2)) else if Int32.ofNat k ∉ sgs then fH (tsI (tsI (tsI s 10 (Int32.ofNat (f + 1))) 8 5) 11 (Int32.ofNat k)) 1 (Int32.ofNat f) else tsI (tsI (tsI s 10 (Int32.ofNat (f + 1))) 8 5) 11 (Int32.ofNat k)) := by
  have hn := hX.2.1
  have hadd : tI s 10 + 1 = Int32.ofNat (f + 1) := by rw [hto, show (1 : Int32) = Int32.ofNat 1 from rfl, z_add]
  generalize hS : tsI (tsI (tsI s 10 (Int32.ofNat (f + 1))) 8 5) 11 (Int32.ofNat k) = S
  have hXS : TX χ n S := by rw [← hS]; exact TX_I (by decide) (TX_I (by decide) (TX_I (by decide) hX))
  have hS10 : tI S 10 = Int32.ofNat (f + 1) := by rw [← hS]; simp [gT]
  have hS9 : tI S 9 = Int32.ofNat f := by rw [← hS]; simp [gT, hfr]
  have hs := t_at (χ := χ) (n := n) (d + 2) hXS (k := f + 1) (by omega)
  have e93 : ∀ b, fX7_nextSign_93 (cT (d + 3)) (bi b) S = some (.inl none, if b = true then S else fH S 1 (Int32.ofNat f)) := by
    intro b
    rw [uX7_nextSign_93, t_fails, hS9]
    cases b <;> simp [bi, bV]
  have e39 : fX7_nextSign_39 (cT (d + 3)) (Int32.ofNat k) S = some (.inl none, if Int32.ofNat k ∉ sgs then fH S 1 (Int32.ofNat f) else S) := by
    have e66 : ∀ b, fX7_nextSign_66 (cT (d + 3)) (Int32.ofNat k) (bi b) S = some (.inl none, if b = false ∧ Int32.ofNat k ∉ ([58, 61, 46, 43, 45, 42, 60] : List Int32) then fH S 1 (Int32.ofNat f) else S) := by
      intro b
      rw [uX7_nextSign_66]
      have h1 := e93 true
      have h0 := e93 false
      rw [bi_t] at h1
      rw [bi_f] at h0
      rw [h1, h0]
      cases b
      · simp only [bi_f, if_true, List.mem_cons, List.not_mem_nil, or_false]
        split
        · rename_i q; simp [q]
        · rename_i q1
          split
          · rename_i q; simp [q]
          · rename_i q2
            split
            · rename_i q; simp [q]
            · rename_i q3
              split
              · rename_i q; simp [q]
              · rename_i q4
                split
                · rename_i q; simp [q]
                · rename_i q5
                  split
                  · rename_i q; simp [q]
                  · rename_i q6
                    split
                    · rename_i q; simp [q]
                    · rename_i q7
                      simp [q1, q2, q3, q4, q5, q6, q7]
      · simp [bi]
    rw [uX7_nextSign_39]
    have h1 := e66 true
    have h0 := e66 false
    rw [bi_t] at h1
    rw [bi_f] at h0
    rw [h1, h0]
    unfold sgs
    simp only [List.mem_cons, List.not_mem_nil, or_false]
    split
    · rename_i q; simp [q]
    · rename_i q1
      split
      · rename_i q; simp [q]
      · rename_i q2
        split
        · rename_i q; simp [q]
        · rename_i q3
          split
          · rename_i q; simp [q]
          · rename_i q4
            split
            · rename_i q; simp [q]
            · rename_i q5
              split
              · rename_i q; simp [q]
              · rename_i q6
                split
                · rename_i q; simp [q]
                · rename_i q7
                  split
                  · rename_i q; simp [q]
                  · rename_i q8
                    simp [q1, q2, q3, q4, q5, q6, q7, q8]
  have e31 : ∀ v, fX7_nextSign_31 (cT (d + 3)) v S = some (.inl none, tsI (tsI S 11 v) 10 (Int32.ofNat (f + 2))) := by
    intro v
    rw [uX7_nextSign_31]
    simp only [rT, bB, eq_self, if_true, if_false, true_and, and_true, false_and, and_false, or_true, true_or, or_false, false_or, reduceIte, Nat.reduceEqDiff, not_true_eq_false, not_false_eq_true, gT, hS10]
    rw [show (1 : Int32) = Int32.ofNat 1 from rfl, z_add]
  have e18 : fX7_nextSign_18 (cT (d + 3)) (Int32.ofNat k) S = some (.inl none, if χ (f + 1) = 61 then tsI (tsI S 11 (if Int32.ofNat k = 58 then 256 else 257)) 10 (Int32.ofNat (f + 2)) else if Int32.ofNat k ∉ sgs then fH S 1 (Int32.ofNat f) else S) := by
    rw [uX7_nextSign_18, hS10, hs]
    simp only [rT, bB, eq_self, if_true, if_false, true_and, and_true, false_and, and_false, or_true, true_or, or_false, false_or, reduceIte, Nat.reduceEqDiff, not_true_eq_false, not_false_eq_true]
    rw [e31, e31, e39]
    split
    · split <;> rfl
    · rfl
  rw [kX7_nextSign, uX7_nextSign]
  simp only [rT, bB, eq_self, if_true, if_false, true_and, and_true, false_and, and_false, or_true, true_or, or_false, false_or, reduceIte, Nat.reduceEqDiff, not_true_eq_false, not_false_eq_true]
  rw [hadd, hS, e18, e39]
  by_cases q1 : Int32.ofNat k = 58
  · rw [if_pos q1]
    by_cases q2 : χ (f + 1) = 61 <;> simp [two, q1, q2]
  · rw [if_neg q1]
    by_cases q3 : Int32.ofNat k = 61
    · rw [if_pos q3]
      by_cases q2 : χ (f + 1) = 61 <;> simp [two, q3, q2]
    · rw [if_neg q3]
      simp [two, q1, q3]
/-- a content of a whole array of longs -/
def tfB (h : tS) (x : Nat) (F : Nat → Int64) : tS := (h.1, h.2.1, h.2.2.1, fun y => if y = x then F else h.2.2.2 y)
theorem tfB_I (h : tS) (x y : Nat) (F : Nat → Int64) : tI (tfB h x F) y = tI h y := rfl
theorem tfB_L (h : tS) (x y : Nat) (F : Nat → Int64) : tL (tfB h x F) y = tL h y := rfl
theorem tfB_A (h : tS) (x y i : Nat) (F : Nat → Int64) : tA (tfB h x F) y i = tA h y i := rfl
theorem tfB_B (h : tS) (x y i : Nat) (F : Nat → Int64) : tB (tfB h x F) y i = if y = x then F i else tB h y i := by
  show (if y = x then F else h.2.2.2 y) i = _
  split <;> rfl
theorem tsB_f (h : tS) (x j : Nat) (v : Int64) : tsB h x j v = tfB h x (fun i => if i = j then v else tB h x i) := by
  unfold tsB tfB tB
  congr
  funext b i
  by_cases e : b = x
  · subst e; simp
  · simp [e]
theorem tself_fB (h : tS) (x : Nat) : tfB h x (tB h x) = h := by
  unfold tfB tB
  congr 3
  funext b
  by_cases e : b = x
  · subst e; simp
  · simp [e]
theorem to_fB (h : tS) (x : Nat) (F G : Nat → Int64) : tfB (tfB h x F) x G = tfB h x G := by
  unfold tfB
  congr
  funext b
  by_cases e : b = x <;> simp [e]
theorem tw_fB_I (h : tS) (x y : Nat) (F : Nat → Int64) (v : Int32) : tfB (tsI h y v) x F = tsI (tfB h x F) y v := rfl
theorem TX_fB {χ : Nat → Int32} {n x : Nat} {s : tS} {F : Nat → Int64} (h : TX χ n s) : TX χ n (tfB s x F) := h
theorem t_ploop {χ : Nat → Int32} {n f : Nat} (d : Nat) (x1 x4 : Int32) : ∀ (g p : Nat) (s : tS), TX χ n s → n ≤ p + g → p ≤ n → f ≤ p → tI s 10 = Int32.ofNat p →
    fX7_nextPattern_42 (cT (d + 3)) x1 x4 (Int32.ofNat f) (p37 ((xSg χ f p).take 6)) s = fX7_nextPattern_42 (cT (d + 3)) x1 x4 (Int32.ofNat f) (p37 ((xSg χ f (xW χ g p)).take 6)) (tsI s 10 (Int32.ofNat (xW χ g p))) := by
  intro g
  induction g with
  | zero =>
    intro p s hX hf hp hfp hto
    rw [xW, ← hto, tself_I]
  | succ g ih =>
    intro p s hX hf hp hfp hto
    by_cases ha : aA (χ p) = true
    · have hn := hX.2.1
      have hpn : p < n := by
        apply Nat.lt_of_not_le
        intro r
        rw [hX.2.2.2 p r, aA_m1] at ha
        cases ha
      have hs := t_at (d + 2) hX (k := p) (by omega)
      have e1 : fX7_nextPattern_54 (cT (d + 3)) x1 x4 (Int32.ofNat f) (p37 ((xSg χ f p).take 6)) s = fX7_nextPattern_42 (cT (d + 3)) x1 x4 (Int32.ofNat f) (p37 ((xSg χ f (p + 1)).take 6)) (tsI s 10 (Int32.ofNat (p + 1))) := by
        have e37 : ∀ v, fX7_nextPattern_72 (cT (d + 3)) x1 x4 (Int32.ofNat f) v s = fX7_nextPattern_42 (cT (d + 3)) x1 x4 (Int32.ofNat f) v (tsI s 10 (Int32.ofNat (p + 1))) := by
          intro v
          rw [uX7_nextPattern_72]
          simp only [rT, bB, eq_self, if_true, if_false, true_and, and_true, false_and, and_false, or_true, true_or, or_false, false_or, reduceIte, Nat.reduceEqDiff, not_true_eq_false, not_false_eq_true, gT, hto]
          rw [show (1 : Int32) = Int32.ofNat 1 from rfl, z_add]
        rw [uX7_nextPattern_54, hto, z_sub hfp, show (6 : Int32) = Int32.ofNat 6 from rfl]
        simp only [z_lt (show p - f < 2147483648 by omega) (show 6 < 2147483648 by omega)]
        rw [xSg_snoc χ hfp]
        by_cases q : p - f < 6
        · rw [if_pos q, hs]
          simp only [rT, bB, eq_self, if_true, if_false, true_and, and_true, false_and, and_false, or_true, true_or, or_false, false_or, reduceIte, Nat.reduceEqDiff, not_true_eq_false, not_false_eq_true]
          rw [t_dg]
          simp only [rT, bB, eq_self, if_true, if_false, true_and, and_true, false_and, and_false, or_true, true_or, or_false, false_or, reduceIte, Nat.reduceEqDiff, not_true_eq_false, not_false_eq_true]
          rw [e37, List.take_of_length_le (l := xSg χ f p) (by rw [xSg_len]; omega), List.take_of_length_le (l := xSg χ f p ++ [χ p]) (by simp [xSg_len]; omega), p37_snoc]
        · rw [if_neg q, e37]
          congr 2
          rw [List.take_append_of_le_length (by rw [xSg_len]; omega)]
      have e2 : fX7_nextPattern_42 (cT (d + 3)) x1 x4 (Int32.ofNat f) (p37 ((xSg χ f p).take 6)) s = fX7_nextPattern_54 (cT (d + 3)) x1 x4 (Int32.ofNat f) (p37 ((xSg χ f p).take 6)) s := by
        rw [uX7_nextPattern_42]
        simp only [hto, hs, t_isL, t_isD, rT, bB, eq_self, if_true, if_false, true_and, and_true, false_and, and_false, or_true, true_or, or_false, false_or, reduceIte, Nat.reduceEqDiff, not_true_eq_false, not_false_eq_true]
        unfold aA at ha
        cases q1 : aL (χ p) <;> cases q2 : aD (χ p) <;> simp_all [bi]
      rw [e2, e1, ih (p + 1) _ (TX_I (by decide) hX) (by omega) (by omega) (by omega) (by simp [gT])]
      have e3 : xW χ (g + 1) p = xW χ g (p + 1) := by simp [xW, ha]
      rw [e3, to_I]
    · have e3 : xW χ (g + 1) p = p := by simp [xW, ha]
      rw [e3, ← hto, tself_I]
/-- the heap behind a pattern's signs -/
def tpH (s : tS) (F : Nat → Int64) (k tl to : Nat) : tS := tsI (tsI (tsI (tfB s 13 F) 10 (Int32.ofNat to)) 14 (Int32.ofNat k)) 15 (Int32.ofNat tl)
theorem xT_lt (χ : Nat → Int32) (p : Nat) : xT χ p < 3 := by unfold xT; split <;> (try split) <;> omega
theorem w_14_10 (h : tS) (m n : Int32) : tsI (tsI h 14 m) 10 n = tsI (tsI h 10 n) 14 m := ts_I h 14 10 m n (by decide)
theorem w_15_10 (h : tS) (m n : Int32) : tsI (tsI h 15 m) 10 n = tsI (tsI h 10 n) 15 m := ts_I h 15 10 m n (by decide)
theorem w_15_14 (h : tS) (m n : Int32) : tsI (tsI h 15 m) 14 n = tsI (tsI h 14 n) 15 m := ts_I h 15 14 m n (by decide)
theorem t_path10 {χ : Nat → Int32} {n m : Nat} (d : Nat) (hm : m ≤ 5) : ∀ (g p : Nat) (b : Bool) (l : List (List Int32)) (s : tS), TX χ n s → tI s 16 = Int32.ofNat m →
    n ≤ p + g → p ≤ n → χ p = 47 → tI s 10 = Int32.ofNat p → tI s 14 = Int32.ofNat l.length → tI s 15 = 0 → l.length ≤ p → (b = true → l.length ≤ m ∧ ∀ i, i < l.length → tB s 13 i = p37 (nthD [] l i)) →
    ∃ F, fX7_nextPattern_10 (cT (d + 3)) (bi b) 1 s = fX7_nextPattern_10 (cT (d + 3)) (bi (xP χ n m g p b l).2.1) 0 (tpH s F (xP χ n m g p b l).2.2.length (xT χ (xP χ n m g p b l).1) (if xT χ (xP χ n m g p b l).1 = 0 then (xP χ n m g p b l).1 else (xP χ n m g p b l).1 + 2)) ∧
      ((xP χ n m g p b l).2.1 = true → ∀ i, i < (xP χ n m g p b l).2.2.length → F i = p37 (nthD [] (xP χ n m g p b l).2.2 i)) := by
  intro g
  induction g with
  | zero =>
    intro p b l s hX s4 hf hp h47 hto hst htl hlen hinv
    rw [hX.2.2.2 p (by omega)] at h47
    exact absurd h47 (by decide)
  | succ g ih =>
    intro p b l s hX s4 hf hp h47 hto hst htl hlen hinv
    have hn := hX.2.1
    have h8 := hX.2.2.2
    have hpn : p < n := by
      apply Nat.lt_of_not_le
      intro r
      rw [h8 p r] at h47
      exact absurd h47 (by decide)
    have hs := t_at (d + 2) hX (k := p) (by omega)
    have hs1 := t_at (d + 2) hX (k := p + 1) (by omega)
    have hadd : tI s 10 + 1 = Int32.ofNat (p + 1) := by rw [hto, show (1 : Int32) = Int32.ofNat 1 from rfl, z_add]
    have e1 : fX7_nextPattern_10 (cT (d + 3)) (bi b) 1 s = fX7_nextPattern_28 (cT (d + 3)) (bi b) (χ (p + 1)) (bi (aA (χ (p + 1)))) s := by
      rw [uX7_nextPattern_10]
      simp only [show ((1 : Int32) = 0) = False from by decide, hadd, hs1, t_isL, t_isD, rT, bB, eq_self, if_true, if_false, true_and, and_true, false_and, and_false, or_true, true_or, or_false, false_or, reduceIte, Nat.reduceEqDiff, not_true_eq_false, not_false_eq_true]
      unfold aA
      cases q1 : aL (χ (p + 1)) <;> cases q2 : aD (χ (p + 1)) <;> simp [bi]
    rw [e1, uX7_nextPattern_28]
    by_cases ha : aA (χ (p + 1)) = true
    · obtain ⟨w1, w2, w3⟩ := xW_lt h8 ha (by omega)
      have e0 : xP χ n m (g + 1) p b l = xP χ n m g (xW χ n (p + 1)) (b && decide (xW χ n (p + 1) - (p + 1) ≤ 6) && decide (l.length < m)) (l ++ [xSg χ (p + 1) (xW χ n (p + 1))]) := by
        simp [xP, h47, ha]
      rw [e0, ha]
      have we := xW_end (χ := χ) h8 n (p + 1) (by omega)
      have pl := t_ploop (χ := χ) (n := n) (f := p + 1) d (bi b) 1 n (p + 1) (tsI s 10 (Int32.ofNat (p + 1))) (TX_I (by decide) hX) (by omega) (by omega) (Nat.le_refl _) (by simp [gT])
      rw [xSg_nil, to_I] at pl
      generalize xW χ n (p + 1) = q at w1 w2 we pl ⊢
      have hsq := t_at (χ := χ) (n := n) (d + 2) (s := tsI s 10 (Int32.ofNat q)) (TX_I (by decide) hX) (k := q) (by omega)
      have we1 : aL (χ q) = false := by unfold aA at we; cases r : aL (χ q) <;> simp_all
      have we2 : aD (χ q) = false := by unfold aA at we; cases r : aD (χ q) <;> simp_all
      have e3 : fX7_nextPattern_42 (cT (d + 3)) (bi b) 1 (Int32.ofNat (p + 1)) (p37 ((xSg χ (p + 1) q).take 6)) (tsI s 10 (Int32.ofNat q)) = fX7_nextPattern_96 (cT (d + 3)) 1 (p37 ((xSg χ (p + 1) q).take 6)) (bi (b && decide (q - (p + 1) ≤ 6) && decide (l.length < m))) (tsI s 10 (Int32.ofNat q)) := by
        rw [uX7_nextPattern_42]
        simp only [hsq, t_isL, t_isD, we1, we2, bi_f, s4, hst, rT, bB, eq_self, if_true, if_false, true_and, and_true, false_and, and_false, or_true, true_or, or_false, false_or, reduceIte, Nat.reduceEqDiff, not_true_eq_false, not_false_eq_true, gT]
        rw [z_sub (by omega), show (6 : Int32) = Int32.ofNat 6 from rfl]
        simp only [z_lt (show 6 < 2147483648 by omega) (show q - (p + 1) < 2147483648 by omega), z_lt (show l.length < 2147483648 by omega) (show m < 2147483648 by omega)]
        cases b
        · simp [bi]
        · by_cases r1 : 6 < q - (p + 1)
          · have r2 : ¬ (q - (p + 1) ≤ 6) := by omega
            simp [bi, r1, r2]
          · have r2 : q - (p + 1) ≤ 6 := by omega
            by_cases r3 : l.length < m <;> simp [bi, r1, r2, r3]
      simp only [show (bi true = 0) = False from by decide, rT, bB, eq_self, if_true, if_false, true_and, and_true, false_and, and_false, or_true, true_or, or_false, false_or, reduceIte, Nat.reduceEqDiff, not_true_eq_false, not_false_eq_true, hadd, gT]
      have pl' : fX7_nextPattern_42 (cT (d + 3)) (bi b) (bi true) (Int32.ofNat (p + 1)) 0 (tsI s 10 (Int32.ofNat (p + 1))) = fX7_nextPattern_96 (cT (d + 3)) 1 (p37 ((xSg χ (p + 1) q).take 6)) (bi (b && decide (q - (p + 1) ≤ 6) && decide (l.length < m))) (tsI s 10 (Int32.ofNat q)) := by
        rw [← e3]; exact pl
      rw [pl']
      generalize hb' : (b && decide (q - (p + 1) ≤ 6) && decide (l.length < m)) = b'
      have e4 : ∃ F, fX7_nextPattern_96 (cT (d + 3)) 1 (p37 ((xSg χ (p + 1) q).take 6)) (bi b') (tsI s 10 (Int32.ofNat q)) = fX7_nextPattern_135 (cT (d + 3)) (bi b') 1 (tsI (tsI (tfB s 13 F) 10 (Int32.ofNat q)) 14 (Int32.ofNat (l.length + 1))) ∧ (b' = true → l.length + 1 ≤ m ∧ ∀ i, i < l.length + 1 → F i = p37 (nthD [] (l ++ [xSg χ (p + 1) q]) i)) := by
        rw [uX7_nextPattern_96]
        simp only [gT, s4, hst, rT, bB, eq_self, if_true, if_false, true_and, and_true, false_and, and_false, or_true, true_or, or_false, false_or, reduceIte, Nat.reduceEqDiff, not_true_eq_false, not_false_eq_true, z_lt (show l.length < 2147483648 by omega) (show m < 2147483648 by omega)]
        have e108 : ∀ S : tS, tI S 14 = Int32.ofNat l.length → fX7_nextPattern_108 (cT (d + 3)) (bi b') 1 S = fX7_nextPattern_135 (cT (d + 3)) (bi b') 1 (tsI S 14 (Int32.ofNat (l.length + 1))) := by
          intro S hS
          rw [uX7_nextPattern_108]
          simp only [rT, bB, eq_self, if_true, if_false, true_and, and_true, false_and, and_false, or_true, true_or, or_false, false_or, reduceIte, Nat.reduceEqDiff, not_true_eq_false, not_false_eq_true, hS]
          rw [show (1 : Int32) = Int32.ofNat 1 from rfl, z_add]
        by_cases r : l.length < m
        · refine ⟨fun i => if i = l.length then p37 ((xSg χ (p + 1) q).take 6) else tB s 13 i, ?_, ?_⟩
          · rw [if_pos r, qs_13 (by omega), e108 _ (by simp [gT, hst]), tsB_f]
            rfl
          · intro hb
            have hb1 : b = true ∧ q - (p + 1) ≤ 6 := by
              rw [hb, Bool.and_eq_true, Bool.and_eq_true, decide_eq_true_eq, decide_eq_true_eq] at hb'
              exact hb'.1
            refine ⟨by omega, fun i hi => ?_⟩
            rw [nthD_snoc]
            by_cases r : i = l.length
            · simp only [r, if_true]
              rw [List.take_of_length_le (by rw [xSg_len]; omega)]
            · simp only [r, if_false]
              exact (hinv hb1.1).2 i (by omega)
        · refine ⟨tB s 13, ?_, ?_⟩
          · rw [if_neg r, e108 _ (by simp [gT, hst]), tself_fB]
          · intro hb
            exfalso
            rw [hb, Bool.and_eq_true, decide_eq_true_eq] at hb'
            exact r hb'.2
      obtain ⟨F, e5, e6⟩ := e4
      rw [e5, uX7_nextPattern_135]
      have hX2 : TX χ n (tsI (tsI (tfB s 13 F) 10 (Int32.ofNat q)) 14 (Int32.ofNat (l.length + 1))) := TX_I (by decide) (TX_I (by decide) (TX_fB hX))
      have hsq2 := t_at (χ := χ) (n := n) (d + 2) hX2 (k := q) (by omega)
      simp only [show ((1 : Int32) = 0) = False from by decide, rT, bB, eq_self, if_true, if_false, true_and, and_true, false_and, and_false, or_true, true_or, or_false, false_or, reduceIte, Nat.reduceEqDiff, not_true_eq_false, not_false_eq_true, gT, tfB_I, hsq2]
      by_cases h47q : χ q = 47
      · rw [if_pos h47q]
        obtain ⟨G, g1, g2⟩ := ih q b' (l ++ [xSg χ (p + 1) q]) _ hX2 (by simp [gT, tfB_I, s4]) (by omega) (by omega) h47q (by simp [gT]) (by simp [gT]) (by simp [gT, tfB_I, htl]) (by simp; omega) (by
          intro r
          obtain ⟨r1, r2⟩ := e6 r
          refine ⟨by simpa using r1, fun i hi => ?_⟩
          rw [← r2 i (by simpa using hi)]
          simp [gT, tfB_B])
        refine ⟨G, ?_, g2⟩
        rw [g1]
        unfold tpH
        simp only [tw_fB_I, to_fB, w_14_10, w_15_10, w_15_14, to_I]
      · rw [if_neg h47q]
        have x0 : xP χ n m g q b' (l ++ [xSg χ (p + 1) q]) = (q, b', l ++ [xSg χ (p + 1) q]) := by
          cases g <;> simp [xP, h47q]
        have x1 : xT χ q = 0 := by simp [xT, h47q]
        rw [x0]
        simp only [x1, if_true]
        refine ⟨F, ?_, ?_⟩
        · unfold tpH
          congr 1
          rw [show (l ++ [xSg χ (p + 1) q]).length = l.length + 1 from by simp]
          have z : tI (tsI (tsI (tfB s 13 F) 10 (Int32.ofNat q)) 14 (Int32.ofNat (l.length + 1))) 15 = Int32.ofNat 0 := by
            simp [gT, tfB_I, htl]
          rw [← z, tself_I]
        · intro r i hi
          exact (e6 r).2 i (by simpa using hi)
    · have ha' : aA (χ (p + 1)) = false := by cases r : aA (χ (p + 1)) <;> simp_all
      have x0 : xP χ n m (g + 1) p b l = (p, b, l) := by simp [xP, ha']
      rw [x0, ha']
      simp only [bi_f, if_true]
      refine ⟨tB s 13, ?_, fun r => (hinv r).2⟩
      have e135 : ∀ S : tS, fX7_nextPattern_135 (cT (d + 3)) (bi b) 0 S = fX7_nextPattern_10 (cT (d + 3)) (bi b) 0 S := by
        intro S
        rw [uX7_nextPattern_135]
        simp only [if_true]
      have e121 : ∀ (tl : Nat), fX7_nextPattern_128 (cT (d + 3)) (bi b) 0 (Int32.ofNat tl) s = fX7_nextPattern_10 (cT (d + 3)) (bi b) 0 (tpH s (tB s 13) l.length tl (p + 2)) := by
        intro tl
        rw [uX7_nextPattern_128]
        simp only [rT, bB, eq_self, if_true, if_false, true_and, and_true, false_and, and_false, or_true, true_or, or_false, false_or, reduceIte, Nat.reduceEqDiff, not_true_eq_false, not_false_eq_true, gT, hto]
        rw [e135, show (2 : Int32) = Int32.ofNat 2 from rfl, z_add]
        congr 1
        unfold tpH
        rw [tself_fB]
        have z : tI (tsI s 10 (Int32.ofNat (p + 2))) 14 = Int32.ofNat l.length := by simp [gT, hst]
        rw [← z, tself_I, ts_I _ _ _ _ _ (by decide)]
      rw [uX7_nextPattern_121, show (1 : Int32) = Int32.ofNat 1 from rfl, show (2 : Int32) = Int32.ofNat 2 from rfl, e121, e121, e135]
      unfold xT
      simp only [h47, true_and]
      by_cases q1 : χ (p + 1) = 42
      · simp [q1]
      · by_cases q2 : χ (p + 1) = 45
        · simp [q2]
        · simp only [q1, q2, if_false, if_true]
          congr 1
          unfold tpH
          rw [tself_fB, ← hto, tself_I, ← hst, tself_I, show Int32.ofNat 0 = tI s 15 from htl.symm, tself_I]
theorem t_path {χ : Nat → Int32} {n m f : Nat} (d : Nat) {s : tS} (hm : m ≤ 5) (hX : TX χ n s) (s4 : tI s 16 = Int32.ofNat m) (hf : f ≤ n) (h47 : χ f = 47) (hto : tI s 10 = Int32.ofNat f) (hfr : tI s 9 = Int32.ofNat f) (p : Nat) (b : Bool) (l : List (List Int32)) (hx : xP χ n m n f true [] = (p, b, l)) (hl : l.length < 2147483648) :
    ∃ F, (b = true → ∀ i, i < l.length → F i = p37 (nthD [] l i)) ∧ cT (d + 4) 18 [eR (.ref 0)] s = some (.inl none, if b = false ∨ (l = [] ∧ xT χ p = 0) then fH (tpH s F l.length (xT χ p) (if xT χ p = 0 then p else p + 2)) 1 (Int32.ofNat f) else tsI (tpH s F l.length (xT χ p) (if xT χ p = 0 then p else p + 2)) 8 4) := by
  obtain ⟨F, e1, e2⟩ := t_path10 (χ := χ) (n := n) (m := m) d hm n f true [] (tsI (tsI s 14 0) 15 0) (TX_I (by decide) (TX_I (by decide) hX)) (by simp [gT, s4]) (by omega) hf h47 (by simp [gT, hto]) (by simp [gT]) (by simp [gT]) (Nat.zero_le _) (by intro _; exact ⟨Nat.zero_le _, fun i hi => absurd hi (Nat.not_lt_zero _)⟩)
  rw [hx] at e1 e2
  simp only at e1 e2
  refine ⟨F, e2, ?_⟩
  rw [kX7_nextPattern, uX7_nextPattern]
  simp only [rT, bB, eq_self, if_true, if_false, true_and, and_true, false_and, and_false, or_true, true_or, or_false, false_or, reduceIte, Nat.reduceEqDiff, not_true_eq_false, not_false_eq_true]
  have e0 : fX7_nextPattern_10 (cT (d + 3)) 1 1 (tsI (tsI s 14 0) 15 0) = fX7_nextPattern_10 (cT (d + 3)) (bi true) 1 (tsI (tsI s 14 0) 15 0) := rfl
  rw [e0, e1, uX7_nextPattern_10]
  have hH : tpH (tsI (tsI s 14 0) 15 0) F l.length (xT χ p) (if xT χ p = 0 then p else p + 2) = tpH s F l.length (xT χ p) (if xT χ p = 0 then p else p + 2) := by
    unfold tpH
    simp only [tw_fB_I, w_14_10, w_15_10, w_15_14, to_I]
  rw [hH]
  have h14 : tI (tpH s F l.length (xT χ p) (if xT χ p = 0 then p else p + 2)) 14 = Int32.ofNat l.length := by simp [tpH, gT]
  have h15 : tI (tpH s F l.length (xT χ p) (if xT χ p = 0 then p else p + 2)) 15 = Int32.ofNat (xT χ p) := by simp [tpH, gT]
  have h9 : tI (tpH s F l.length (xT χ p) (if xT χ p = 0 then p else p + 2)) 9 = Int32.ofNat f := by simp [tpH, gT, tfB_I, hfr]
  have hxt := xT_lt χ p
  simp only [t_fails, h14, h15, h9, rT, bB, eq_self, if_true, if_false, true_and, and_true, false_and, and_false, or_true, true_or, or_false, false_or, reduceIte, Nat.reduceEqDiff, not_true_eq_false, not_false_eq_true, bi_0]
  simp only [show (0 : Int32) = Int32.ofNat 0 from rfl, z_eq hl (show 0 < 2147483648 by omega), z_eq (show xT χ p < 2147483648 by omega) (show 0 < 2147483648 by omega), List.length_eq_zero_iff]
  cases b
  · simp
  · by_cases q1 : l = []
    · by_cases q2 : xT χ p = 0 <;> simp [q1, q2]
    · simp [q1]
