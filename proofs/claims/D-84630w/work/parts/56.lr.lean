set_option maxRecDepth 100000
set_option maxHeartbeats 1000000
/-! D6: a pattern is made -/
theorem c_pinit {P A st k0 : Nat} (d : Nat) (tl : Int32) (hk0 : k0 ≤ 6) : ∀ (g k : Nat) (h : cS), k + g = k0 → cCl h P = 12 → cR h 1200 P = .ref A → cCl h A = 6200 → cLen h A = k0 → cCl h st = 6009 → cLen h st = 6 → A ≠ st →
    ∃ G, fX12_init_8 (cC d) (.ref P) (.ref st) (Int32.ofNat k0) tl (Int32.ofNat k) h = some (.inl none, csI (cfAL h A G) 1201 P tl) ∧ (∀ i, i < k → G i = cAL h A i) ∧ (∀ i, k ≤ i → i < k0 → G i = cAL h st i) := by
  intro g
  induction g with
  | zero =>
    intro k h hk p1 p2 a1 a2 s1 s2 hne
    refine ⟨cAL h A, ?_, fun _ _ => rfl, fun i h1 h2 => by omega⟩
    rw [uX12_init_8, self_fAL]
    simp only [z_lt (show k < 2147483648 by omega) (show k0 < 2147483648 by omega)]
    rw [if_neg (by omega)]
    simp only [p1, rC, bB, Nat.reduceDiv, Nat.reduceLeDiff, Nat.reduceLT,  eq_self, if_true, if_false, true_and, and_true, false_and, and_false, or_true, true_or, or_false, false_or, reduceIte, reduceCtorEq, Nat.reduceEqDiff, not_true_eq_false, not_false_eq_true, r_misN, r_misR]
  | succ g ih =>
    intro k h hk p1 p2 a1 a2 s1 s2 hne
    obtain ⟨G, e1, e2, e3⟩ := ih (k + 1) (csAL h A k (cAL h st k)) (by omega) p1 p2 a1 a2 s1 s2 hne
    refine ⟨G, ?_, ?_, ?_⟩
    · rw [uX12_init_8]
      simp only [z_lt (show k < 2147483648 by omega) (show k0 < 2147483648 by omega)]
      rw [if_pos (by omega)]
      simp only [p1, p2, rC, bB, Nat.reduceDiv, Nat.reduceLeDiff, Nat.reduceLT,  eq_self, if_true, if_false, true_and, and_true, false_and, and_false, or_true, true_or, or_false, false_or, reduceIte, reduceCtorEq, Nat.reduceEqDiff, not_true_eq_false, not_false_eq_true, r_misN, r_misR]
      rw [caL_of (by rw [s1]; rfl) (by omega) (by omega), csaL_of (by rw [a1]; rfl) (by omega) (by omega), show (1 : Int32) = Int32.ofNat 1 from rfl, z_add, e1, csAL_f, o_fAL]
    · intro i hi
      rw [e2 i (by omega), g_AL_AL, if_neg (by omega)]
    · intro i h1 h2
      by_cases q : i = k
      · rw [q, e2 k (by omega), g_AL_AL, if_pos ⟨rfl, rfl⟩]
      · rw [e3 i (by omega) h2, g_AL_AL, if_neg (by omega)]
/-- the heap with a pattern more, at w -/
def patH (c : cS) (w k0 : Nat) (tl : Int32) (G : Nat → Int64) : cS := csR (csI (cfAL (csR (cmore (csLen (csCl (cmore (csCl c (cNx c) 12) 2) (cNx c + 1) 6200) (cNx c + 1) k0) k0) 1200 (cNx c) (.ref (cNx c + 1))) (cNx c + 1) G) 1201 (cNx c) tl) 1008 w (.ref (cNx c))
theorem c_pat {w st k0 : Nat} (d : Nat) {c : cS} (tl : Int32) (hk0 : k0 ≤ 6) (h1 : cCl c w = 10) (hl : w < cNx c) (s1 : cR c 1009 w = .ref st) (s2 : cCl c st = 6009) (s3 : cLen c st = 6) (hs : st < cNx c) :
    ∃ G, fX10_path_143 (cC (d + 10)) (.ref w) (Int32.ofNat k0) tl c = some (.inl none, patH c w k0 tl G) ∧ (∀ i, i < k0 → G i = cAL c st i) := by
  have n1 : w ≠ cNx c := by omega
  have n2 : st ≠ cNx c := by omega
  have n3 : st ≠ cNx c + 1 := by omega
  have n4 : cNx c + 1 ≠ cNx c := by omega
  have n5 : w ≠ cNx c + 1 := by omega
  obtain ⟨G, e1, e2, e3⟩ := c_pinit (P := cNx c) (A := cNx c + 1) (st := st) (k0 := k0) (d + 9) tl hk0 k0 0 (csR (cmore (csLen (csCl (cmore (csCl c (cNx c) 12) 2) (cNx c + 1) 6200) (cNx c + 1) k0) k0) 1200 (cNx c) (.ref (cNx c + 1))) (by omega) (by simp [gC]) (by simp [gC]) (by simp [gC]) (by simp [gC]) (by simp [gC, n2, n3, s2]) (by simp [gC, n3, s3]) (by omega)
  refine ⟨G, ?_, ?_⟩
  · have hz : ¬ (Int32.ofNat k0 < 0 ∨ 1000000 < Int32.ofNat k0) := by
      rw [show (0 : Int32) = Int32.ofNat 0 from rfl, show (1000000 : Int32) = Int32.ofNat 1000000 from rfl, z_lt (by omega) (by omega), z_lt (by omega) (by omega)]
      omega
    rw [uX10_path_143]
    simp only [h1, s1, n1, n2, n3, kX12_init, uX12_init, pP, csz, rC, bB, Nat.reduceDiv, Nat.reduceLeDiff, Nat.reduceLT,  eq_self, if_true, if_false, true_and, and_true, false_and, and_false, or_true, true_or, or_false, false_or, reduceIte, reduceCtorEq, Nat.reduceEqDiff, not_true_eq_false, not_false_eq_true, r_misN, r_misR, gC]
    unfold cna
    rw [if_neg hz, z_nat (by omega)]
    simp only [n1, n4, rC, bB, Nat.reduceDiv, Nat.reduceLeDiff, Nat.reduceLT,  eq_self, if_true, if_false, true_and, and_true, false_and, and_false, or_true, true_or, or_false, false_or, reduceIte, reduceCtorEq, Nat.reduceEqDiff, not_true_eq_false, not_false_eq_true, r_misN, r_misR, gC]
    rw [show (0 : Int32) = Int32.ofNat 0 from rfl, e1]
    have n6 : ¬ (cNx c = cNx c + 1) := by omega
    simp only [n6, if_false, if_true, bB, gC, n5, n1, h1]
    rfl
  · intro i hi
    rw [e3 i (by omega) hi]
    simp [gC]
def xT (χ : Nat → Int32) (p : Nat) : Nat := if χ p = 47 ∧ χ (p + 1) = 42 then 1 else if χ p = 47 ∧ χ (p + 1) = 45 then 2 else 0
theorem c_p96 {χ : Nat → Int32} {n w t p : Nat} (d : Nat) {c : cS} (x1 : Int32) (b : Bool) (hW : WX χ n w t c) (hp : p ≤ n) (hat : cI c 1003 w = Int32.ofNat p) :
    fX10_path_96 (cC (d + 1)) (.ref w) x1 (bi b) c = fX10_path_131 (cC (d + 1)) (.ref w) x1 (bi b) (Int32.ofNat (xT χ p)) (.ref w) (Int32.ofNat p) (if xT χ p = 0 then 0 else 2) c := by
  have hW0 := hW
  obtain ⟨h1, h2, h3, h4, h5, h6, h7, h8⟩ := hW
  have hs := c_see d hW0 (k := p) (by omega)
  have hs1 := c_see d hW0 (k := p + 1) (by omega)
  have e122 : ∀ k, k < 3 → fX10_path_122 (cC (d + 1)) (.ref w) x1 (bi b) (Int32.ofNat k) c = fX10_path_131 (cC (d + 1)) (.ref w) x1 (bi b) (Int32.ofNat k) (.ref w) (Int32.ofNat p) (if k = 0 then 0 else 2) c := by
    intro k hk
    rw [uX10_path_122]
    simp only [h1, hat, rC, bB, Nat.reduceDiv, Nat.reduceLeDiff, Nat.reduceLT,  eq_self, if_true, if_false, true_and, and_true, false_and, and_false, or_true, true_or, or_false, false_or, reduceIte, reduceCtorEq, Nat.reduceEqDiff, not_true_eq_false, not_false_eq_true, r_misN, r_misR]
    simp only [show (0 : Int32) = Int32.ofNat 0 from rfl, z_eq (show k < 2147483648 by omega) (show 0 < 2147483648 by omega)]
    split <;> rfl
  rw [uX10_path_96]
  simp only [h1, hat, hs, rC, bB, Nat.reduceDiv, Nat.reduceLeDiff, Nat.reduceLT,  eq_self, if_true, if_false, true_and, and_true, false_and, and_false, or_true, true_or, or_false, false_or, reduceIte, reduceCtorEq, Nat.reduceEqDiff, not_true_eq_false, not_false_eq_true, r_misN, r_misR]
  rw [show (1 : Int32) = Int32.ofNat 1 from rfl, z_add, hs1]
  simp only [rC, bB, Nat.reduceDiv, Nat.reduceLeDiff, Nat.reduceLT,  eq_self, if_true, if_false, true_and, and_true, false_and, and_false, or_true, true_or, or_false, false_or, reduceIte, reduceCtorEq, Nat.reduceEqDiff, not_true_eq_false, not_false_eq_true, r_misN, r_misR]
  unfold xT
  by_cases q1 : χ p = 47
  · rw [if_pos q1, uX10_path_110]
    by_cases q2 : χ (p + 1) = 42
    · simp only [q1, q2, and_self, if_true]
      exact e122 1 (by omega)
    · by_cases q3 : χ (p + 1) = 45
      · simp only [q1, q2, q3, and_self, if_true, if_false, and_false]
        exact e122 2 (by omega)
      · simp only [q1, q2, q3, if_false, and_false]
        exact e122 0 (by omega)
  · rw [if_neg q1, uX10_path_110]
    simp only [q1, false_and, if_false, show ((-1 : Int32) = 42) = False from by decide, show ((-1 : Int32) = 45) = False from by decide]
    exact e122 0 (by omega)
theorem c_path {χ : Nat → Int32} {n w t st m f : Nat} (d : Nat) {c : cS} (hm : m ≤ 5) (hW : WX χ n w t c) (hl : w < cNx c) (s1 : cR c 1009 w = .ref st) (s2 : cCl c st = 6009) (s3 : cLen c st = 6) (hst : st < cNx c) (s4 : cI c 1002 w = Int32.ofNat m) (hf : f ≤ n) (hat : cI c 1003 w = Int32.ofNat f) (hfr : cI c 1005 w = Int32.ofNat f) (p : Nat) (b : Bool) (l : List (List Int32)) (hx : xP χ n m n f true [] = (p, b, l)) :
    f ≤ p ∧ p ≤ n ∧ (b = true → l.length ≤ m) ∧ ∃ F, (b = true → ∀ i, i < l.length → F i = p8 (nthD [] l i)) ∧
    ((b = false ∨ (l = [] ∧ xT χ p = 0)) → cC (d + 15) 1009 [eR (.ref w)] c = some (.inr (.ref (cNx c)), wH (csI (csI (cfAL c st F) 1004 w 4) 1003 w (Int32.ofNat (if xT χ p = 0 then p else p + 2))) 1 (Int32.ofNat f))) ∧
    (¬ (b = false ∨ (l = [] ∧ xT χ p = 0)) → ∃ G, (∀ i, i < l.length → G i = p8 (nthD [] l i)) ∧ cC (d + 15) 1009 [eR (.ref w)] c = some (.inl none, patH (csI (csI (cfAL c st F) 1004 w 4) 1003 w (Int32.ofNat (if xT χ p = 0 then p else p + 2))) w l.length (Int32.ofNat (xT χ p)) G)) := by
  have hW0 := hW
  obtain ⟨h1, h2, h3, h4, h5, h6, h7, h8⟩ := hW
  obtain ⟨F, e1, e2, e3, e4, e5, e6⟩ := c_path7 (χ := χ) (n := n) (t := t) (st := st) (m := m) (d + 13) hm n f true [] (csI c 1004 w 4) (WX_I (by decide) hW0) s1 s2 s3 s4 (by omega) hf (by simp [gC, hat]) (Nat.zero_le _) (by intro _; exact ⟨Nat.zero_le _, fun i hi => absurd hi (Nat.not_lt_zero _)⟩)
  rw [hx] at e1 e2 e3 e4 e5 e6
  simp only at e1 e2 e3 e4 e5 e6
  have hxt : xT χ p < 3 := by unfold xT; split <;> (try split) <;> omega
  have hs := c_see (χ := χ) (n := n) (t := t) (d + 13) (c := csI (cfAL (csI c 1004 w 4) st F) 1003 w (Int32.ofNat p)) (WX_I (by decide) (WX_fAL (WX_I (by decide) hW0))) (k := p) (by omega)
  have hs1 := c_see (χ := χ) (n := n) (t := t) (d + 13) (c := csI (cfAL (csI c 1004 w 4) st F) 1003 w (Int32.ofNat p)) (WX_I (by decide) (WX_fAL (WX_I (by decide) hW0))) (k := p + 1) (by omega)
  have k1 : cC (d + 15) 1009 [eR (.ref w)] c = fX10_path_131 (cC (d + 14)) (.ref w) (Int32.ofNat l.length) (bi b) (Int32.ofNat (xT χ p)) (.ref w) (Int32.ofNat p) (if xT χ p = 0 then 0 else 2) (csI (cfAL (csI c 1004 w 4) st F) 1003 w (Int32.ofNat p)) := by
    simp only [kX10_path, uX10_path, h1, rC, bB, Nat.reduceDiv, Nat.reduceLeDiff, Nat.reduceLT,  eq_self, if_true, if_false, true_and, and_true, false_and, and_false, or_true, true_or, or_false, false_or, reduceIte, reduceCtorEq, Nat.reduceEqDiff, not_true_eq_false, not_false_eq_true, r_misN, r_misR]
    have e0 : fX10_path_7 (cC (d + 14)) (.ref w) 0 1 (csI c 1004 w 4) = fX10_path_7 (cC (d + 13 + 1)) (.ref w) (Int32.ofNat ([] : List (List Int32)).length) (bi true) (csI c 1004 w 4) := rfl
    rw [e0, e1, uX10_path_7]
    simp only [h1, hs, rC, bB, Nat.reduceDiv, Nat.reduceLeDiff, Nat.reduceLT,  eq_self, if_true, if_false, true_and, and_true, false_and, and_false, or_true, true_or, or_false, false_or, reduceIte, reduceCtorEq, Nat.reduceEqDiff, not_true_eq_false, not_false_eq_true, r_misN, r_misR, gC]
    rw [show (1 : Int32) = Int32.ofNat 1 from rfl, z_add, hs1]
    simp only [rC, bB, Nat.reduceDiv, Nat.reduceLeDiff, Nat.reduceLT,  eq_self, if_true, if_false, true_and, and_true, false_and, and_false, or_true, true_or, or_false, false_or, reduceIte, reduceCtorEq, Nat.reduceEqDiff, not_true_eq_false, not_false_eq_true, r_misN, r_misR, c_isL, c_isD, h1, gC]
    have := c_p96 (χ := χ) (n := n) (t := t) (p := p) (d + 13) (c := csI (cfAL (csI c 1004 w 4) st F) 1003 w (Int32.ofNat p)) (Int32.ofNat l.length) b (WX_I (by decide) (WX_fAL (WX_I (by decide) hW0))) e4 (by simp [gC])
    rw [← this]
    by_cases q1 : χ p = 47
    · have q2 : aA (χ (p + 1)) = false := by
        cases q : aA (χ (p + 1))
        · rfl
        · exact absurd ⟨q1, q⟩ e6
      unfold aA at q2
      rw [if_pos q1]
      have q3 : aL (χ (p + 1)) = false := by cases r : aL (χ (p + 1)) <;> simp_all
      have q4 : aD (χ (p + 1)) = false := by cases r : aD (χ (p + 1)) <;> simp_all
      rw [q3, z_add, hs1]
      simp only [rC, bB, Nat.reduceDiv, Nat.reduceLeDiff, Nat.reduceLT,  eq_self, if_true, if_false, true_and, and_true, false_and, and_false, or_true, true_or, or_false, false_or, reduceIte, reduceCtorEq, Nat.reduceEqDiff, not_true_eq_false, not_false_eq_true, r_misN, r_misR, c_isD, bi_f, q4]
    · rw [if_neg q1]
  refine ⟨e3, e4, fun q => (e2 q).1, F, fun q => (e2 q).2, ?_, ?_⟩
  · intro hbad
    rw [k1, uX10_path_131]
    have hh : csI (csI (cfAL (csI c 1004 w 4) st F) 1003 w (Int32.ofNat p)) 1003 w (Int32.ofNat p + if xT χ p = 0 then 0 else 2) = csI (csI (cfAL c st F) 1004 w 4) 1003 w (Int32.ofNat (if xT χ p = 0 then p else p + 2)) := by
      rw [o_I, w_fAL_I]
      congr 1
      split
      · rw [show (0 : Int32) = Int32.ofNat 0 from rfl, z_add]; rfl
      · rw [show (2 : Int32) = Int32.ofNat 2 from rfl, z_add]
    have ht := c_throw (d + 1) (c := csI (csI (cfAL c st F) 1004 w 4) 1003 w (Int32.ofNat (if xT χ p = 0 then p else p + 2))) (w := w) h1 hl 1
    have hfrom : cI (csI (csI (cfAL c st F) 1004 w 4) 1003 w (Int32.ofNat (if xT χ p = 0 then p else p + 2))) 1005 w = Int32.ofNat f := by simp [gC, hfr]
    rw [hfrom] at ht
    simp only [h1, rC, bB, Nat.reduceDiv, Nat.reduceLeDiff, Nat.reduceLT,  eq_self, if_true, if_false, true_and, and_true, false_and, and_false, or_true, true_or, or_false, false_or, reduceIte, reduceCtorEq, Nat.reduceEqDiff, not_true_eq_false, not_false_eq_true, r_misN, r_misR, gC]
    rw [hh, ht]
    have hnx : cNx (csI (csI (cfAL c st F) 1004 w 4) 1003 w (Int32.ofNat (if xT χ p = 0 then p else p + 2))) = cNx c := rfl
    rw [hnx]
    rcases hbad with q | ⟨q1, q2⟩
    · simp [q, bi]
    · simp only [q1, q2, List.length_nil, show Int32.ofNat 0 = (0 : Int32) from rfl, if_true]
      split <;> rfl
  · intro hgood
    have hb : b = true := by cases b <;> simp_all
    rw [hb] at k1
    have hl6 : l.length ≤ 6 := by have := (e2 hb).1; omega
    obtain ⟨G, g1, g2⟩ := c_pat (w := w) (st := st) (k0 := l.length) (d + 4) (c := csI (csI (cfAL c st F) 1004 w 4) 1003 w (Int32.ofNat (if xT χ p = 0 then p else p + 2))) (Int32.ofNat (xT χ p)) hl6 h1 hl s1 s2 s3 hst
    refine ⟨G, ?_, ?_⟩
    · intro i hi
      rw [g2 i hi, ← (e2 hb).2 i hi]
      simp [gC]
    · rw [k1, uX10_path_131]
      have hh : csI (csI (cfAL (csI c 1004 w 4) st F) 1003 w (Int32.ofNat p)) 1003 w (Int32.ofNat p + if xT χ p = 0 then 0 else 2) = csI (csI (cfAL c st F) 1004 w 4) 1003 w (Int32.ofNat (if xT χ p = 0 then p else p + 2)) := by
        rw [o_I, w_fAL_I]
        congr 1
        split
        · rw [show (0 : Int32) = Int32.ofNat 0 from rfl, z_add]; rfl
        · rw [show (2 : Int32) = Int32.ofNat 2 from rfl, z_add]
      simp only [h1, rC, bB, Nat.reduceDiv, Nat.reduceLeDiff, Nat.reduceLT,  eq_self, if_true, if_false, true_and, and_true, false_and, and_false, or_true, true_or, or_false, false_or, reduceIte, reduceCtorEq, Nat.reduceEqDiff, not_true_eq_false, not_false_eq_true, r_misN, r_misR, gC, bi_t, show ((1 : Int32) = 0) = False from by decide]
      rw [hh, g1]
      simp only [show (0 : Int32) = Int32.ofNat 0 from rfl, z_eq (show l.length < 2147483648 by omega) (show 0 < 2147483648 by omega), z_eq (show xT χ p < 2147483648 by omega) (show 0 < 2147483648 by omega)]
      by_cases r1 : l.length = 0
      · rw [if_pos r1]
        have r2 : xT χ p ≠ 0 := by
          intro r
          apply hgood
          right
          exact ⟨List.eq_nil_of_length_eq_zero r1, r⟩
        rw [if_neg r2]
      · rw [if_neg r1]
