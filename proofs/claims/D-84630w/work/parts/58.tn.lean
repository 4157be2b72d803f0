set_option maxRecDepth 100000
set_option maxHeartbeats 1000000
/-! D8: the reference's words, kind by kind -/
def kχ (i : Nat) : Int32 := Int32.ofNat (nthD 0 tKW i)
def bp (k : Nat) : Nat := nthD 0 [0, 6, 13, 19, 23, 26, 29, 34, 39, 43, 49, 54, 60, 64, 68, 73, 78, 82, 88, 93, 97, 103, 108, 113] k
theorem kw_seg : ∀ k, k < 23 → xSg kχ (bp k) (bp (k + 1) - 1) = kwAt k ∧ bp k < bp (k + 1) - 1 ∧ bp (k + 1) ≤ 113 ∧ tFind 32 tKW (bp k) = Int32.ofNat (bp (k + 1) - 1) := by decide +kernel
theorem t_code (d : Nat) (s : tS) : ∀ (g k e : Nat) (l : List Int32), k + g = e → e ≤ 113 → fX7_codeOf_4 (cT (d + 9)) (.retAddr 0) (Int32.ofNat e) (p37 l) (Int32.ofNat k) s = some (.inl (some (eL (p37 (l ++ xSg kχ k e)))), s) := by
  intro g
  induction g with
  | zero =>
    intro k e l hk he
    rw [uX7_codeOf_4]
    simp only [z_lt (show k < 2147483648 by omega) (show e < 2147483648 by omega)]
    rw [if_neg (by omega), show e = k from by omega, xSg_nil, List.append_nil]
  | succ g ih =>
    intro k e l hk he
    have hc : cT (d + 9) 9001 [eR (.retAddr 0), eI (Int32.ofNat k)] s = some (.inl (some (eI (kχ k))), s) := by
      rw [tp_any _ _ _ _ rfl]
      show ((if Int32.ofNat k < 0 ∨ tKW.length ≤ (Int32.ofNat k).toNatClampNeg then none else some (.inl (some (eI (Int32.ofNat (nthD 0 tKW (Int32.ofNat k).toNatClampNeg)))), s)) : tR) = _
      rw [z_nat (by omega), if_neg]
      · rfl
      · rw [show (0 : Int32) = Int32.ofNat 0 from rfl, z_lt (by omega) (by omega)]
        have : tKW.length = 113 := by decide
        omega
    rw [uX7_codeOf_4]
    simp only [z_lt (show k < 2147483648 by omega) (show e < 2147483648 by omega)]
    rw [if_pos (by omega), hc]
    simp only [rT, bB, eq_self, if_true, if_false, true_and, and_true, false_and, and_false, or_true, true_or, or_false, false_or, reduceIte, Nat.reduceEqDiff, not_true_eq_false, not_false_eq_true]
    rw [t_dg (d + 6)]
    simp only [rT, bB, eq_self, if_true, if_false, true_and, and_true, false_and, and_false, or_true, true_or, or_false, false_or, reduceIte, Nat.reduceEqDiff, not_true_eq_false, not_false_eq_true]
    rw [show (1 : Int32) = Int32.ofNat 1 from rfl, z_add, ← p37_snoc, ih (k + 1) e _ (by omega) he, xSg_cons kχ (show k < e by omega)]
    simp only [List.append_assoc, List.cons_append, List.nil_append]
def kv (l : List Int32) : Int32 := match xK l 23 0 with
  | some j => Int32.ofNat j
  | none => -1
theorem kv_some {l : List Int32} {k : Nat} (hk : k < 23) (h : kwAt k = l) : kv l = Int32.ofNat k := by
  unfold kv
  cases e : xK l 23 0 with
  | none => exact absurd h (xK_none 23 0 e k (by omega) (by omega))
  | some j =>
    have := xK_some 23 0 j e
    have := kw_inj j (by omega) k hk (by rw [this.2.2, h])
    simp [this]
theorem kv_none {l : List Int32} (h : ∀ k, k < 23 → kwAt k ≠ l) : kv l = -1 := by
  unfold kv
  cases e : xK l 23 0 with
  | none => rfl
  | some j =>
    have := xK_some 23 0 j e
    exact absurd this.2.2 (h j (by omega))
theorem t_kwloop (d : Nat) (s : tS) {l : List Int32} (hl : gl l) : ∀ (g k : Nat), k + g = 23 → (∀ j, j < k → kwAt j ≠ l) → fX7_keywordOf_4 (cT (d + 10)) (p37 l) (Int32.ofNat k) (Int32.ofNat (bp k)) s = some (.inl (some (eI (kv l))), s) := by
  intro g
  have hlen : cT (d + 10) 9000 [eR (.retAddr 0)] s = some (.inl (some (eI (Int32.ofNat 113))), s) := by
    rw [tp_any (d + 1) _ _ _ rfl]; rfl
  induction g with
  | zero =>
    intro k hk hno
    rw [uX7_keywordOf_4, hlen]
    have hb : bp k = 113 := by rw [show k = 23 from by omega]; rfl
    simp only [rT, bB, eq_self, if_true, if_false, true_and, and_true, false_and, and_false, or_true, true_or, or_false, false_or, reduceIte, Nat.reduceEqDiff, not_true_eq_false, not_false_eq_true, hb]
    rw [if_neg (by decide), kv_none (fun j hj => hno j (by omega))]
  | succ g ih =>
    intro k hk hno
    obtain ⟨w1, w2, w3, w4⟩ := kw_seg k (by omega)
    have hfi : cT (d + 10) 9002 [eR (.retAddr 0), eI 32, eI (Int32.ofNat (bp k))] s = some (.inl (some (eI (Int32.ofNat (bp (k + 1) - 1)))), s) := by
      rw [tp_any (d + 1) _ _ _ rfl]
      show (some (.inl (some (eI (tFind (32 : Int32).toNatClampNeg tKW (Int32.ofNat (bp k)).toNatClampNeg))), s) : tR) = _
      rw [z_nat (by omega), ← w4]
      rfl
    rw [uX7_keywordOf_4, hlen]
    simp only [rT, bB, eq_self, if_true, if_false, true_and, and_true, false_and, and_false, or_true, true_or, or_false, false_or, reduceIte, Nat.reduceEqDiff, not_true_eq_false, not_false_eq_true, z_lt (show bp k < 2147483648 by omega) (show 113 < 2147483648 by omega)]
    rw [if_pos (by omega), hfi]
    simp only [rT, bB, eq_self, if_true, if_false, true_and, and_true, false_and, and_false, or_true, true_or, or_false, false_or, reduceIte, Nat.reduceEqDiff, not_true_eq_false, not_false_eq_true]
    rw [kX7_codeOf, uX7_codeOf, show (0 : Int64) = p37 [] from rfl, t_code d s (bp (k + 1) - 1 - bp k) (bp k) (bp (k + 1) - 1) [] (by omega) (by omega), List.nil_append, w1]
    simp only [rT, bB, eq_self, if_true, if_false, true_and, and_true, false_and, and_false, or_true, true_or, or_false, false_or, reduceIte, Nat.reduceEqDiff, not_true_eq_false, not_false_eq_true, lg_cmp_eq]
    by_cases q : kwAt k = l
    · rw [if_pos ((p37_inj (kw_gl k (by omega)) hl).2 q), kv_some (by omega) q]
    · rw [if_neg (fun e => q ((p37_inj (kw_gl k (by omega)) hl).1 e))]
      simp only [show (1 : Int32) = Int32.ofNat 1 from rfl, z_add]
      rw [show bp (k + 1) - 1 + 1 = bp (k + 1) from by omega]
      exact ih (k + 1) (by omega) (fun j hj => by
        by_cases e : j = k
        · rw [e]; exact q
        · exact hno j (by omega))
theorem t_kw (d : Nat) (s : tS) {l : List Int32} (hl : gl l) : cT (d + 11) 15 [eL (p37 l)] s = some (.inl (some (eI (kv l))), s) := by
  rw [kX7_keywordOf, uX7_keywordOf]
  exact t_kwloop d s hl 23 0 (by omega) (fun j hj => by omega)
theorem t_wloop {χ : Nat → Int32} {n f : Nat} (d : Nat) : ∀ (g p : Nat) (s : tS), TX χ n s → n ≤ p + g → p ≤ n → f ≤ p → tI s 10 = Int32.ofNat p → tI s 9 = Int32.ofNat f → tL s 12 = p37 ((xSg χ f p).take 8) →
    fX7_nextName_3 (cT (d + 3)) s = fX7_nextName_3 (cT (d + 3)) (tsI (tsL s 12 (p37 ((xSg χ f (xW χ g p)).take 8))) 10 (Int32.ofNat (xW χ g p))) := by
  intro g
  induction g with
  | zero =>
    intro p s hX hf hp hfp hto hfr hna
    rw [xW, ← hna, tself_L, ← hto, tself_I]
  | succ g ih =>
    intro p s hX hf hp hfp hto hfr hna
    by_cases ha : aA (χ p) = true
    · have hn := hX.2.1
      have hpn : p < n := by
        apply Nat.lt_of_not_le
        intro r
        rw [hX.2.2.2 p r, aA_m1] at ha
        cases ha
      have hs := t_at (d + 2) hX (k := p) (by omega)
      have e1 : fX7_nextName_15 (cT (d + 3)) s = fX7_nextName_3 (cT (d + 3)) (tsI (tsL s 12 (p37 ((xSg χ f (p + 1)).take 8))) 10 (Int32.ofNat (p + 1))) := by
        have e37 : ∀ v, fX7_nextName_37 (cT (d + 3)) v s = fX7_nextName_3 (cT (d + 3)) (tsI (tsL s 12 v) 10 (Int32.ofNat (p + 1))) := by
          intro v
          rw [uX7_nextName_37]
          simp only [rT, bB, eq_self, if_true, if_false, true_and, and_true, false_and, and_false, or_true, true_or, or_false, false_or, reduceIte, Nat.reduceEqDiff, not_true_eq_false, not_false_eq_true, gT, hto]
          rw [show (1 : Int32) = Int32.ofNat 1 from rfl, z_add]
        rw [uX7_nextName_15, hto, hfr, z_sub hfp, show (8 : Int32) = Int32.ofNat 8 from rfl]
        simp only [z_lt (show p - f < 2147483648 by omega) (show 8 < 2147483648 by omega)]
        rw [xSg_snoc χ hfp]
        by_cases q : p - f < 8
        · rw [if_pos q, hs]
          simp only [rT, bB, eq_self, if_true, if_false, true_and, and_true, false_and, and_false, or_true, true_or, or_false, false_or, reduceIte, Nat.reduceEqDiff, not_true_eq_false, not_false_eq_true]
          rw [t_dg]
          simp only [rT, bB, eq_self, if_true, if_false, true_and, and_true, false_and, and_false, or_true, true_or, or_false, false_or, reduceIte, Nat.reduceEqDiff, not_true_eq_false, not_false_eq_true]
          rw [e37, hna, List.take_of_length_le (l := xSg χ f p) (by rw [xSg_len]; omega), List.take_of_length_le (l := xSg χ f p ++ [χ p]) (by simp [xSg_len]; omega), p37_snoc]
        · rw [if_neg q, e37, hna]
          congr 4
          rw [List.take_append_of_le_length (by rw [xSg_len]; omega)]
      have e2 : fX7_nextName_3 (cT (d + 3)) s = fX7_nextName_15 (cT (d + 3)) s := by
        rw [uX7_nextName_3]
        simp only [hto, hs, t_isL, t_isD, rT, bB, eq_self, if_true, if_false, true_and, and_true, false_and, and_false, or_true, true_or, or_false, false_or, reduceIte, Nat.reduceEqDiff, not_true_eq_false, not_false_eq_true]
        unfold aA at ha
        cases q1 : aL (χ p) <;> cases q2 : aD (χ p) <;> simp_all [bi]
      rw [e2, e1, ih (p + 1) _ (TX_I (by decide) (TX_L hX)) (by omega) (by omega) (by omega) (by simp [gT]) (by simp [gT, hfr]) (by simp [gT])]
      have e3 : xW χ (g + 1) p = xW χ g (p + 1) := by simp [xW, ha]
      rw [e3]
      simp only [nT]
    · have e3 : xW χ (g + 1) p = p := by simp [xW, ha]
      rw [e3, ← hna, tself_L, ← hto, tself_I]
theorem t_word {χ : Nat → Int32} {n p f : Nat} (d : Nat) {s : tS} (hX : TX χ n s) (hf : f ≤ n) (hto : tI s 10 = Int32.ofNat f) (hfr : tI s 9 = Int32.ofNat f) (hq : p = xW χ n f) :
    cT (d + 13) 10 [eR (.ref 0)] s = some (.inl none, if 8 < p - f then fH (tsI (tsL s 12 (p37 ((xSg χ f p).take 8))) 10 (Int32.ofNat p)) 1 (Int32.ofNat f) else tsI (tsI (tsI (tsL s 12 (p37 (xSg χ f p))) 10 (Int32.ofNat p)) 11 (kv (xSg χ f p))) 8 (if kv (xSg χ f p) = -1 then 1 else 2)) := by
  have h8 := hX.2.2.2
  have hn := hX.2.1
  have hp := xW_le (χ := χ) h8 n f hf
  rw [← hq] at hp
  rw [kX7_nextName, uX7_nextName]
  simp only [rT, bB, eq_self, if_true, if_false, true_and, and_true, false_and, and_false, or_true, true_or, or_false, false_or, reduceIte, Nat.reduceEqDiff, not_true_eq_false, not_false_eq_true]
  rw [t_wloop (χ := χ) (n := n) (f := f) (d + 9) n f (tsL s 12 0) (TX_L hX) (by omega) hf (Nat.le_refl _) (by simp [gT, hto]) (by simp [gT, hfr]) (by rw [xSg_nil]; simp [gT]; rfl)]
  rw [← hq, to_L]
  have hs := t_at (χ := χ) (n := n) (d + 11) (s := tsI (tsL s 12 (p37 ((xSg χ f p).take 8))) 10 (Int32.ofNat p)) (TX_I (by decide) (TX_L hX)) (k := p) (by omega)
  have he := xW_end (χ := χ) h8 n f (by omega)
  rw [← hq] at he
  have he1 : aL (χ p) = false := by unfold aA at he; cases q : aL (χ p) <;> simp_all
  have he2 : aD (χ p) = false := by unfold aA at he; cases q : aD (χ p) <;> simp_all
  rw [uX7_nextName_3]
  simp only [hs, t_isL, t_isD, he1, he2, bi_f, hfr, rT, bB, eq_self, if_true, if_false, true_and, and_true, false_and, and_false, or_true, true_or, or_false, false_or, reduceIte, Nat.reduceEqDiff, not_true_eq_false, not_false_eq_true, gT]
  rw [z_sub (by omega), show (8 : Int32) = Int32.ofNat 8 from rfl]
  simp only [z_lt (show 8 < 2147483648 by omega) (show p - f < 2147483648 by omega)]
  by_cases q : 8 < p - f
  · rw [if_pos q, if_pos q, t_fails]
    simp only [rT, bB, eq_self, if_true, if_false, true_and, and_true, false_and, and_false, or_true, true_or, or_false, false_or, reduceIte, Nat.reduceEqDiff, not_true_eq_false, not_false_eq_true, gT, hfr]
  · rw [if_neg q, if_neg q]
    have hgl : gl (xSg χ f p) := by
      refine ⟨by rw [xSg_len]; omega, ?_⟩
      intro x hx
      unfold xSg at hx
      rw [List.mem_map] at hx
      obtain ⟨i, hi, rfl⟩ := hx
      rw [List.mem_range] at hi
      exact xW_all n f (f + i) (by omega) (by rw [← hq]; omega)
    rw [List.take_of_length_le (l := xSg χ f p) (by rw [xSg_len]; omega)]
    rw [t_kw (d + 1) _ hgl]
    simp only [rT, bB, eq_self, if_true, if_false, true_and, and_true, false_and, and_false, or_true, true_or, or_false, false_or, reduceIte, Nat.reduceEqDiff, not_true_eq_false, not_false_eq_true, gT]
    split <;> rfl
theorem t_nloop {χ : Nat → Int32} {n : Nat} (d : Nat) : ∀ (g p : Nat) (v : Int64) (s : tS), TX χ n s → n ≤ p + g → p ≤ n → tI s 10 = Int32.ofNat p →
    fX7_nextNumber_2 (cT (d + 2)) v s = fX7_nextNumber_2 (cT (d + 2)) (xN χ g p v).2 (tsI s 10 (Int32.ofNat (xN χ g p v).1)) := by
  intro g
  induction g with
  | zero =>
    intro p v s hX hf hp hto
    simp only [xN]
    rw [← hto, tself_I]
  | succ g ih =>
    intro p v s hX hf hp hto
    by_cases ha : aD (χ p) = true
    · have hn := hX.2.1
      have hpn : p < n := by
        apply Nat.lt_of_not_le
        intro r
        rw [hX.2.2.2 p r, aD_m1] at ha
        cases ha
      have hs := t_at (d + 1) hX (k := p) (by omega)
      have e1 : ∀ u, fX7_nextNumber_25 (cT (d + 2)) u s = fX7_nextNumber_2 (cT (d + 2)) u (tsI s 10 (Int32.ofNat (p + 1))) := by
        intro u
        rw [uX7_nextNumber_25]
        simp only [hto, rT, bB, eq_self, if_true, if_false, true_and, and_true, false_and, and_false, or_true, true_or, or_false, false_or, reduceIte, Nat.reduceEqDiff, not_true_eq_false, not_false_eq_true]
        rw [show (1 : Int32) = Int32.ofNat 1 from rfl, z_add]
      have e2 : fX7_nextNumber_2 (cT (d + 2)) v s = fX7_nextNumber_2 (cT (d + 2)) (nX v (χ p)) (tsI s 10 (Int32.ofNat (p + 1))) := by
        rw [uX7_nextNumber_2]
        simp only [hto, hs, t_isD, ha, bi_t, e1, rT, bB, eq_self, if_true, if_false, true_and, and_true, false_and, and_false, or_true, true_or, or_false, false_or, reduceIte, Nat.reduceEqDiff, not_true_eq_false, not_false_eq_true, lg_cmp_gt, show ((1 : Int32) = 0) = False from by decide]
        unfold nX
        split <;> rfl
      rw [e2, ih (p + 1) _ _ (TX_I (by decide) hX) (by omega) (by omega) (by simp [gT])]
      have e3 : xN χ (g + 1) p v = xN χ g (p + 1) (nX v (χ p)) := by simp [xN, ha]
      rw [e3, to_I]
    · have e3 : xN χ (g + 1) p v = (p, v) := by simp [xN, ha]
      rw [e3]
      simp only
      rw [← hto, tself_I]
theorem t_number {χ : Nat → Int32} {n f : Nat} (d : Nat) {s : tS} (hX : TX χ n s) (hf : f ≤ n) (hto : tI s 10 = Int32.ofNat f) (hfr : tI s 9 = Int32.ofNat f) :
    cT (d + 3) 17 [eR (.ref 0)] s = some (.inl none, if 2147483647 < (xN χ n f 0).2 then fH (tsI s 10 (Int32.ofNat (xN χ n f 0).1)) 1 (Int32.ofNat f) else tsI (tsI (tsI s 10 (Int32.ofNat (xN χ n f 0).1)) 11 (xN χ n f 0).2.toInt32) 8 3) := by
  have h8 := hX.2.2.2
  have hn := hX.2.1
  have hp := xN_le (χ := χ) h8 n f 0 hf
  rw [kX7_nextNumber, uX7_nextNumber, t_nloop (χ := χ) (n := n) d n f 0 s hX (by omega) hf hto]
  have he := xN_end (χ := χ) h8 n f 0 (by omega)
  generalize xN χ n f 0 = r at hp he ⊢
  obtain ⟨p, v⟩ := r
  simp only at hp he ⊢
  have hs := t_at (χ := χ) (n := n) (d + 1) (s := tsI s 10 (Int32.ofNat p)) (TX_I (by decide) hX) (k := p) (by omega)
  rw [uX7_nextNumber_2]
  simp only [hs, t_isD, he, bi_f, rT, bB, eq_self, if_true, if_false, true_and, and_true, false_and, and_false, or_true, true_or, or_false, false_or, reduceIte, Nat.reduceEqDiff, not_true_eq_false, not_false_eq_true, gT, lg_cmp_gt, t_fails, hfr]
  split <;> rfl
