set_option maxRecDepth 100000
set_option maxHeartbeats 1000000
/-! D3: the component's words, kind by kind -/
def wH (c : cS) (k pl : Int32) : cS := csI (csI (cmore (csCl c (cNx c) 11) 8) 1106 (cNx c) k) 1107 (cNx c) pl
/-- what is thrown is a text's fault -/
def thr (c : cS) (a : Nat) (k pl : Int32) : Prop := cCl c a = 11 ∧ cI c 1106 a = k ∧ cI c 1107 a = pl
theorem thr_wH (c : cS) (k pl : Int32) : thr (wH c k pl) (cNx c) k pl := by
  refine ⟨?_, ?_, ?_⟩ <;> simp [wH, gC]
theorem c_wrong {w : Nat} {c : cS} (d : Nat) (hw : cCl c w = 10) (hl : w < cNx c) (k : Int32) : cC (d + 13) 1007 [eR (.ref w), eI k] c = some (.inl (some (eR (.ref (cNx c)))), wH c k (cI c 1005 w)) := by
  have hne : w ≠ cNx c := by omega
  simp only [kX10_wrong, uX10_wrong, kX11_init, uX11_init, hw, rC, bB, Nat.reduceDiv, Nat.reduceLeDiff, Nat.reduceLT,  eq_self, if_true, if_false, true_and, and_true, false_and, and_false, or_true, true_or, or_false, false_or, reduceIte, reduceCtorEq, Nat.reduceEqDiff, not_true_eq_false, not_false_eq_true, r_misN, r_misR, gC, pP, hne, csz]
  rfl
theorem c_throw {w : Nat} {c : cS} (d : Nat) (hw : cCl c w = 10) (hl : w < cNx c) (k : Int32) : (bR (cC (d + 13) 1007 [eR (.ref w), eI k] c) fun v h => cthr h v) = some (.inr (.ref (cNx c)), wH c k (cI c 1005 w)) := by
  rw [c_wrong d hw hl k]
  simp only [rC, bB, Nat.reduceDiv, Nat.reduceLeDiff, Nat.reduceLT,  eq_self, if_true, if_false, true_and, and_true, false_and, and_false, or_true, true_or, or_false, false_or, reduceIte, reduceCtorEq, Nat.reduceEqDiff, not_true_eq_false, not_false_eq_true, r_misN, r_misR]
  rw [if_pos]
  have := (thr_wH c k (cI c 1005 w)).1
  rw [this]; rfl
theorem xSg_cons (χ : Nat → Int32) {p q : Nat} (h : p < q) : xSg χ p q = χ p :: xSg χ (p + 1) q := by
  unfold xSg
  rw [show q - p = (q - (p + 1)) + 1 from by omega, List.range_succ_eq_map, List.map_cons, List.map_map]
  congr 1
  apply List.map_congr_left
  intro i _
  show χ (p + (i + 1)) = χ (p + 1 + i)
  congr 1; omega
theorem c_wloop {χ : Nat → Int32} {n w t : Nat} (d : Nat) : ∀ (g p : Nat) (l : List Int32) (c : cS), WX χ n w t c → n ≤ p + g → p ≤ n → cI c 1003 w = Int32.ofNat p → cL c 1007 w = p8 l →
    fX10_word_3 (cC (d + 1)) (.ref w) c = fX10_word_3 (cC (d + 1)) (.ref w) (csI (csL c 1007 w (p8 (l ++ xSg χ p (xW χ g p)))) 1003 w (Int32.ofNat (xW χ g p))) := by
  intro g
  induction g with
  | zero =>
    intro p l c hW hf hp hat hna
    rw [xW, xSg_nil, List.append_nil, ← hna, self_L, ← hat, self_I]
  | succ g ih =>
    intro p l c hW hf hp hat hna
    by_cases ha : aA (χ p) = true
    · have hW0 := hW
      obtain ⟨h1, h2, h3, h4, h5, h6, h7, h8⟩ := hW
      have hpn : p < n := by
        apply Nat.lt_of_not_le
        intro r
        rw [h8 p r, aA_m1] at ha
        cases ha
      have hs := c_see d hW0 (k := p) (by omega)
      have e1 : fX10_word_15 (cC (d + 1)) (.ref w) c = fX10_word_3 (cC (d + 1)) (.ref w) (csI (csL c 1007 w (p8 (l ++ [χ p]))) 1003 w (Int32.ofNat (p + 1))) := by
        rw [uX10_word_15]
        simp only [h1, hat, hs, hna, rC, bB, Nat.reduceDiv, Nat.reduceLeDiff, Nat.reduceLT,  eq_self, if_true, if_false, true_and, and_true, false_and, and_false, or_true, true_or, or_false, false_or, reduceIte, reduceCtorEq, Nat.reduceEqDiff, not_true_eq_false, not_false_eq_true, r_misN, r_misR, gC]
        rw [show (1 : Int32) = Int32.ofNat 1 from rfl, z_add, p8_snoc]
      have e2 : fX10_word_3 (cC (d + 1)) (.ref w) c = fX10_word_15 (cC (d + 1)) (.ref w) c := by
        rw [uX10_word_3]
        simp only [h1, hat, hs, c_isL, c_isD, rC, bB, Nat.reduceDiv, Nat.reduceLeDiff, Nat.reduceLT,  eq_self, if_true, if_false, true_and, and_true, false_and, and_false, or_true, true_or, or_false, false_or, reduceIte, reduceCtorEq, Nat.reduceEqDiff, not_true_eq_false, not_false_eq_true, r_misN, r_misR]
        unfold aA at ha
        cases q1 : aL (χ p) <;> cases q2 : aD (χ p) <;> simp_all [bi]
      have hq := xW_le (χ := χ) h8 g (p + 1) (by omega)
      rw [e2, e1, ih (p + 1) (l ++ [χ p]) _ (WX_I (by decide) (WX_L hW0)) (by omega) (by omega) (by simp only [gC]; simp) (by simp only [gC]; simp)]
      have e3 : xW χ (g + 1) p = xW χ g (p + 1) := by simp [xW, ha]
      rw [e3, xSg_cons χ (show p < xW χ g (p + 1) by omega)]
      simp only [nC, List.append_assoc, List.cons_append, List.nil_append]
    · have e3 : xW χ (g + 1) p = p := by simp [xW, ha]
      rw [e3, xSg_nil, List.append_nil, ← hna, self_L, ← hat, self_I]
/-! keywords -/
def KW : List (List Int32) := [[103, 114, 97, 110, 116], [109, 111, 100, 117, 108, 101], [102, 105, 101, 108, 100], [108, 101, 116], [105, 110], [105, 102], [116, 104, 101, 110], [101, 108, 115, 101], [116, 114, 121], [99, 97, 116, 99, 104], [112, 114, 105, 118], [117, 110, 100, 101, 114], [102, 117, 110], [110, 101, 119], [110, 111, 110, 101], [115, 101, 108, 102], [99, 116, 120], [99, 104, 101, 99, 107], [97, 98, 108, 101], [111, 117, 116], [115, 112, 97, 119, 110], [119, 97, 105, 116], [102, 97, 105, 108]]
def kwAt (k : Nat) : List Int32 := nthD [] KW k
theorem kw_gl : ∀ k, k < 23 → gl (kwAt k) := by
  unfold gl
  decide
theorem kw_inj : ∀ j, j < 23 → ∀ k, k < 23 → kwAt j = kwAt k → j = k := by decide
def xK (l : List Int32) : Nat → Nat → Option Nat
  | 0, _ => none
  | g + 1, k => match xK l g (k + 1) with
    | some j => some j
    | none => if kwAt k = l then some k else none
theorem xK_some {l : List Int32} : ∀ g k j, xK l g k = some j → k ≤ j ∧ j < k + g ∧ kwAt j = l := by
  intro g
  induction g with
  | zero => intro k j h; cases h
  | succ g ih =>
    intro k j h
    simp only [xK] at h
    cases e : xK l g (k + 1) with
    | some i =>
      rw [e] at h
      cases h
      have := ih _ _ e
      exact ⟨by omega, by omega, this.2.2⟩
    | none =>
      rw [e] at h
      simp only at h
      split at h
      · cases h; exact ⟨Nat.le_refl _, by omega, by assumption⟩
      · cases h
theorem xK_none {l : List Int32} : ∀ g k, xK l g k = none → ∀ j, k ≤ j → j < k + g → kwAt j ≠ l := by
  intro g
  induction g with
  | zero => intro k _ j h1 h2; omega
  | succ g ih =>
    intro k h j h1 h2
    simp only [xK] at h
    cases e : xK l g (k + 1) with
    | some i => rw [e] at h; cases h
    | none =>
      rw [e] at h
      simp only at h
      split at h
      · cases h
      · by_cases q : j = k
        · rw [q]; assumption
        · exact ih _ e j (by omega) (by omega)
/-- the keywords as the component has them -/
def KX (w ks : Nat) (c : cS) : Prop := cR c 1011 w = .ref ks ∧ cCl c ks = 6011 ∧ cLen c ks = 23 ∧ ∀ k, k < 23 → cAL c ks k = p8 (kwAt k)
def kwH (c : cS) (w : Nat) : Option Nat → cS
  | some j => csI (csI c 1004 w 2) 1006 w (Int32.ofNat j)
  | none => c
theorem c_kloop {w ks : Nat} (d : Nat) {l : List Int32} (hl : gl l) : ∀ (g k : Nat) (c : cS), k + g = 23 → cCl c w = 10 → KX w ks c → cL c 1007 w = p8 l →
    fX10_word_50 (cC d) (.ref w) (Int32.ofNat k) c = some (.inl none, kwH c w (xK l g k)) := by
  intro g
  induction g with
  | zero =>
    intro k c hk h1 hK hna
    obtain ⟨k1, k2, k3, k4⟩ := hK
    rw [uX10_word_50]
    simp only [h1, k1, k2, k3, rC, bB, Nat.reduceDiv, Nat.reduceLeDiff, Nat.reduceLT,  eq_self, if_true, if_false, true_and, and_true, false_and, and_false, or_true, true_or, or_false, false_or, reduceIte, reduceCtorEq, Nat.reduceEqDiff, not_true_eq_false, not_false_eq_true, r_misN, r_misR, cak]
    simp only [z_lt (show k < 2147483648 by omega) (show 23 < 2147483648 by omega)]
    rw [if_neg (by omega)]
    rfl
  | succ g ih =>
    intro k c hk h1 hK hna
    have hK0 := hK
    obtain ⟨k1, k2, k3, k4⟩ := hK
    rw [uX10_word_50]
    simp only [h1, k1, k2, k3, rC, bB, Nat.reduceDiv, Nat.reduceLeDiff, Nat.reduceLT,  eq_self, if_true, if_false, true_and, and_true, false_and, and_false, or_true, true_or, or_false, false_or, reduceIte, reduceCtorEq, Nat.reduceEqDiff, not_true_eq_false, not_false_eq_true, r_misN, r_misR, cak]
    simp only [z_lt (show k < 2147483648 by omega) (show 23 < 2147483648 by omega)]
    rw [if_pos (by omega), caL_of (by rw [k2]; rfl) (by omega) (by omega), k4 k (by omega), hna]
    simp only [lg_cmp_eq]
    rw [show (1 : Int32) = Int32.ofNat 1 from rfl, z_add]
    by_cases q : kwAt k = l
    · rw [if_pos ((p8_inj (kw_gl k (by omega)) hl).2 q)]
      simp only [h1, rC, bB, Nat.reduceDiv, Nat.reduceLeDiff, Nat.reduceLT,  eq_self, if_true, if_false, true_and, and_true, false_and, and_false, or_true, true_or, or_false, false_or, reduceIte, reduceCtorEq, Nat.reduceEqDiff, not_true_eq_false, not_false_eq_true, r_misN, r_misR, gC]
      rw [ih (k + 1) (csI (csI c 1004 w 2) 1006 w (Int32.ofNat k)) (by omega) h1 ⟨k1, k2, k3, k4⟩ hna]
      congr 2
      simp only [xK]
      cases xK l g (k + 1) with
      | none => rw [if_pos q]; rfl
      | some j =>
        simp only [kwH]
        rw [s_I (csI c 1004 w 2) 1006 w 1004 w (Int32.ofNat k) 2 (by decide), o_I, o_I]
    · rw [if_neg (fun e => q ((p8_inj (kw_gl k (by omega)) hl).1 e)), ih (k + 1) c (by omega) h1 hK0 hna]
      congr 2
      simp only [xK]
      cases xK l g (k + 1) with
      | none => rw [if_neg q]
      | some j => rfl
/-- a word: too long, or a name or a keyword -/
theorem c_word {χ : Nat → Int32} {n w t ks p f : Nat} (d : Nat) {c : cS} (hW : WX χ n w t c) (hK : KX w ks c) (hl : w < cNx c) (hf : f ≤ n) (hat : cI c 1003 w = Int32.ofNat f) (hfr : cI c 1005 w = Int32.ofNat f) (hq : p = xW χ n f) :
    cC (d + 15) 1005 [eR (.ref w)] c = (if 8 < p - f then some (.inr (.ref (cNx c)), wH (csI (csL c 1007 w (p8 (xSg χ f p))) 1003 w (Int32.ofNat p)) 1 (Int32.ofNat f)) else some (.inl none, kwH (csI (csI (csL c 1007 w (p8 (xSg χ f p))) 1003 w (Int32.ofNat p)) 1004 w 1) w (xK (xSg χ f p) 23 0))) := by
  have hW0 := hW
  obtain ⟨h1, h2, h3, h4, h5, h6, h7, h8⟩ := hW
  have hp := xW_le (χ := χ) h8 n f hf
  rw [← hq] at hp
  simp only [kX10_word, uX10_word, h1, rC, bB, Nat.reduceDiv, Nat.reduceLeDiff, Nat.reduceLT,  eq_self, if_true, if_false, true_and, and_true, false_and, and_false, or_true, true_or, or_false, false_or, reduceIte, reduceCtorEq, Nat.reduceEqDiff, not_true_eq_false, not_false_eq_true, r_misN, r_misR]
  rw [c_wloop (d + 13) n f [] (csL c 1007 w 0) (WX_L hW0) (by omega) hf hat (by simp only [gC]; simp [p8])]
  rw [← hq, List.nil_append, o_L]
  have hs := c_see (χ := χ) (n := n) (t := t) (d + 13) (c := csI (csL c 1007 w (p8 (xSg χ f p))) 1003 w (Int32.ofNat p)) (WX_I (by decide) (WX_L hW0)) (k := p) (by omega)
  have he := xW_end (χ := χ) h8 n f (by omega)
  rw [← hq] at he
  have he1 : aL (χ p) = false := by unfold aA at he; cases q : aL (χ p) <;> simp_all
  have he2 : aD (χ p) = false := by unfold aA at he; cases q : aD (χ p) <;> simp_all
  rw [uX10_word_3]
  simp only [h1, hs, c_isL, c_isD, he1, he2, bi_f, hfr, rC, bB, Nat.reduceDiv, Nat.reduceLeDiff, Nat.reduceLT,  eq_self, if_true, if_false, true_and, and_true, false_and, and_false, or_true, true_or, or_false, false_or, reduceIte, reduceCtorEq, Nat.reduceEqDiff, not_true_eq_false, not_false_eq_true, r_misN, r_misR, gC]
  rw [z_sub (by omega), show (8 : Int32) = Int32.ofNat 8 from rfl]
  simp only [z_lt (show 8 < 2147483648 by omega) (show p - f < 2147483648 by omega)]
  by_cases q : 8 < p - f
  · rw [if_pos q, if_pos q]
    have := c_throw (d + 1) (c := csI (csL c 1007 w (p8 (xSg χ f p))) 1003 w (Int32.ofNat p)) (w := w) h1 hl 1
    simp only [gC] at this
    rw [this]
    simp [hfr]
  · rw [if_neg q, if_neg q]
    have hgl : gl (xSg χ f p) := by
      refine ⟨by rw [xSg_len]; omega, ?_⟩
      intro x hx
      unfold xSg at hx
      rw [List.mem_map] at hx
      obtain ⟨i, hi, rfl⟩ := hx
      rw [List.mem_range] at hi
      exact xW_all n f (f + i) (by omega) (by rw [← hq]; omega)
    rw [show (0 : Int32) = Int32.ofNat 0 from rfl, c_kloop (ks := ks) (d + 14) hgl 23 0 (csI (csI (csL c 1007 w (p8 (xSg χ f p))) 1003 w (Int32.ofNat p)) 1004 w 1) (by omega) h1 hK (by simp [gC])]
