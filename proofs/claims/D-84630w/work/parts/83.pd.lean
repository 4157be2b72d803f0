set_option maxRecDepth 100000
set_option maxHeartbeats 4000000
/-! D33: one deeper, and back -/
section
variable {χ : Nat → Int32} {n t r p f : Nat} {vo : Nat → Nat} {Op Oa Ou : Nat → Prop} {E O : Nat} {c : cS} {s : tS}
theorem P_deep {H D lv : Nat} {rc : cRes} {rt : tR} (hR : RP χ n t r p f vo Op Oa Ou E O c s) (hlv : cnt s 63 = lv) (hl : lv < 24) (h : PX χ n t r f p vo Op Oa Ou E O (csI c 806 r (Int32.ofNat (lv + 1))) (tsI s 63 (Int32.ofNat (lv + 1))) H D rc rt) :
    PX χ n t r f p vo Op Oa Ou E O c s H D (bR rc fun v5 h4 => cgI h4 806 (.ref r) fun v6 => cpI h4 806 (.ref r) (v6 - 1) fun h7 => some (.inl (some (eR v5)), h7)) (bI rt fun v6 h5 => tpI h5 63 (tI h5 63 - 1) fun h7 => some (.inl (some (eI v6)), h7)) := by
  obtain ⟨Lt, _, _, _, hO⟩ := hR.2.2.2.2.1
  obtain ⟨hR1, hST1, hc1⟩ := P_es hR (m := lv + 1) (by omega) (by omega)
  rcases h with hb | ⟨a, x, c', s', p', f', h1, h2, vo', g, W, w1, w2, w3, w4, w5, w6, w7, w8, w9⟩
  · left
    refine pB_step hb (Nat.le_refl _) (Nat.le_refl _) (fun a c' q => by rw [q]; rfl) (fun q s' q1 q2 => ?_)
    rw [q1, b_I, r_tpI]
    exact ⟨q, _, rfl, by rw [t_I_I, if_neg (by decide)], by rw [t_I_I, if_neg (by decide)]⟩
  · right
    have h63 : cnt s' 63 = lv + 1 := by rw [w8.2.2.2.1]; exact hc1
    have hok := w1.2.2.2.1.2.1.2.1
    have e63 : tI s' 63 = Int32.ofNat (lv + 1) := by have := hok.1.1; rw [h63] at this; exact this
    have e806 : cI c' 806 r = Int32.ofNat (lv + 1) := by rw [hok.2]; exact e63
    have esub : Int32.ofNat (lv + 1) - 1 = Int32.ofNat lv := by rw [show (1 : Int32) = Int32.ofNat 1 from rfl, z_sub (by omega)]; rfl
    obtain ⟨hR3, hST3, hc3⟩ := P_es w1 (m := lv) (by omega) (by omega)
    have hcl := w1.2.2.2.1.1.1
    refine ⟨a, x, csI c' 806 r (Int32.ofNat lv), tsI s' 63 (Int32.ofNat lv), p', f', ?_, ?_, vo', g, W, hR3, ?_, w3, w4, w5, ?_, w7, ?_, w9⟩
    · rw [h1, b_R, r_cgI, if_pos hcl, r_cpI, if_pos hcl, e806, esub]
    · rw [h2, b_I, r_tpI, e63, esub]
    · exact ST_trans (ST_len hR hR1 hST1) hST1 (ST_trans (ST_len hR1 w1 w2) w2 hST3)
    · have hu : cnt (tsI s 63 (Int32.ofNat (lv + 1))) 64 < cnt s' 35 := by
        have := w1.2.2.2.1.2.2.2.2.2.2.2.1.1.2.1
        rw [w8.2.2.2.2] at this
        exact this
      exact TR_ST w1 hST3 hu (fun y hy => hy.2.1) w6
    · obtain ⟨k1, k2, k3, k4, k5⟩ := w8
      exact ⟨k1, k2, k3, by rw [hc3, hlv], k5⟩
theorem bPre_es (m : Int32) : bPre (tsI s 63 m) = bPre s := rfl
theorem S_behind (dc dt : Nat) {H D lv : Nat} (hsub : ∀ (vo : Nat → Nat) (Op : Nat → Prop) (E p f : Nat) (c : cS) (s : tS), cnt s 63 = lv + 1 → RP χ n t r p f vo Op Oa Ou E O c s → bPre s = true → PX χ n t r f p vo Op Oa Ou E O c s H D (cC (dc + 30) 826 [eR (.ref r)] c) (cT (dt + 30) 56 [eR (.ref 0)] s)) : SP χ n t r Oa Ou O lv H D (dc + 31) 829 (dt + 31) 57 := by
  intro vo Op E p f c s hlv hR
  have hS := hR.2.2.2.1.1
  have hw := hR.1.1.1.1
  have hl := hR.1.1.2.2.2.2.1.1
  have hok := hR.2.2.2.1.2.1.2.1
  have h24 : lv ≤ 24 := by have := hok.1.2; omega
  have e63 : tI s 63 = Int32.ofNat lv := by have := hok.1.1; rw [hlv] at this; exact this
  have e806 : cI c 806 r = Int32.ofNat lv := by rw [hok.2]; exact e63
  have eadd : Int32.ofNat lv + 1 = Int32.ofNat (lv + 1) := by rw [show (1 : Int32) = Int32.ofNat 1 from rfl, z_add]
  rw [kX8_behind, r_cck, if_pos hS.1, uX8_behind, c_bPre (dc + 28) hS.1 hS.2.1 hR.1, b_I, c_deeper (dc + 16) (bPre s) hS.1 hS.2.1 hw hl, kX7_innerPrefix, uX7_innerPrefix, t_bPre, b_I, t_deeper (dt + 27), hR.2.1, e806, e63, eadd]
  simp only [if_true, show (24 : Int32) = Int32.ofNat 24 from rfl, z_eq (show lv < 2147483648 by omega) (show 24 < 2147483648 by omega)]
  obtain ⟨y1, y2, y3, _, _⟩ := lx_mis hR.1 hR.2.1 1 (by decide)
  obtain ⟨z1, _, _, z4, z5⟩ := lx_mis hR.1 hR.2.1 4 (by decide)
  have hnx : ∀ k, cNx (wH c k (cI c 1005 (r + 16))) ≤ cNx c + 300 * (n - f) + 100 ∧ cSl (wH c k (cI c 1005 (r + 16))) ≤ cSl c + 2000 * (n - f) + 800 := fun k => ⟨by rw [(wH_nx _ _ _).1]; omega, by rw [(wH_nx _ _ _).2]; omega⟩
  by_cases q : lv = 24
  · left
    rw [if_pos q, b_Vx]
    cases hb : bPre s
    · simp only [Bool.false_eq_true, if_false, if_true, b_I]
      exact ⟨_, _, 0, _, 1, Int32.ofNat f, rfl, rfl, y1, y2, y3, by decide, (hnx 1).1, (hnx 1).2⟩
    · simp only [Bool.true_eq_false, if_true, if_false, q, b_I]
      exact ⟨_, _, 0, _, 4, Int32.ofNat f, rfl, rfl, z1, z4, z5, by decide, (hnx 4).1, (hnx 4).2⟩
  · obtain ⟨Lt, _, _, _, hO⟩ := hR.2.2.2.2.1
    obtain ⟨hR1, hST1, hc1⟩ := P_es hR (m := lv + 1) (by omega) (by omega)
    rw [if_neg q, b_V]
    cases hb : bPre s
    · left
      simp only [if_true, b_I]
      rw [C_nob dc hR1.2.2.2.1.1 hR1.1 (by rw [bPre_es]; exact hb), b_Rx]
      have hth : thr (wH (csI c 806 r (Int32.ofNat (lv + 1))) 1 (Int32.ofNat f)) (cNx c) 1 (Int32.ofNat f) := thr_wH (csI c 806 r (Int32.ofNat (lv + 1))) 1 (Int32.ofNat f)
      refine ⟨cNx c, _, 0, _, 1, Int32.ofNat f, rfl, rfl, hth, y2, y3, by decide, ?_, ?_⟩
      · rw [(wH_nx _ _ _).1]; show cNx c + 1 ≤ _; omega
      · rw [(wH_nx _ _ _).2]; show cSl c + 8 ≤ _; omega
    · simp only [Bool.true_eq_false, if_false, q, b_I, e10]
      exact P_deep hR hlv (by omega) (hsub vo Op E p f _ _ hc1 hR1 (by rw [bPre_es]; exact hb))
/-- an E: a let, an if, a try, a comparison -/
theorem S_e (dc dt : Nat) {H D lv : Nat}
    (hlet : ∀ (vo : Nat → Nat) (Op : Nat → Prop) (E p f : Nat) (c : cS) (s : tS), cnt s 63 = lv + 1 → RP χ n t r p f vo Op Oa Ou E O c s → tI s 8 = 2 → tI s 11 = 3 → PX χ n t r f p vo Op Oa Ou E O c s H D (cC (dc + 33) 817 [eR (.ref r)] c) (cT (dt + 33) 44 [eR (.ref 0)] s))
    (hif : ∀ (vo : Nat → Nat) (Op : Nat → Prop) (E p f : Nat) (c : cS) (s : tS), cnt s 63 = lv + 1 → RP χ n t r p f vo Op Oa Ou E O c s → tI s 8 = 2 → tI s 11 = 5 → PX χ n t r f p vo Op Oa Ou E O c s H D (cC (dc + 33) 821 [eR (.ref r)] c) (cT (dt + 33) 44 [eR (.ref 0)] s))
    (htry : ∀ (vo : Nat → Nat) (Op : Nat → Prop) (E p f : Nat) (c : cS) (s : tS), cnt s 63 = lv + 1 → RP χ n t r p f vo Op Oa Ou E O c s → tI s 8 = 2 → tI s 11 = 8 → PX χ n t r f p vo Op Oa Ou E O c s H D (cC (dc + 33) 822 [eR (.ref r)] c) (cT (dt + 33) 44 [eR (.ref 0)] s))
    (hcmp : ∀ (vo : Nat → Nat) (Op : Nat → Prop) (E p f : Nat) (c : cS) (s : tS), cnt s 63 = lv + 1 → RP χ n t r p f vo Op Oa Ou E O c s → ¬ (tI s 8 = 2 ∧ (tI s 11 = 3 ∨ tI s 11 = 5 ∨ tI s 11 = 8)) → PX χ n t r f p vo Op Oa Ou E O c s H D (cC (dc + 33) 823 [eR (.ref r)] c) (cT (dt + 33) 44 [eR (.ref 0)] s)) :
    SP χ n t r Oa Ou O lv H D (dc + 34) 813 (dt + 34) 40 := by
  intro vo Op E p f c s hlv hR
  have hS := hR.2.2.2.1.1
  have hw := hR.1.1.1.1
  have hl := hR.1.1.2.2.2.2.1.1
  have hok := hR.2.2.2.1.2.1.2.1
  have h24 : lv ≤ 24 := by have := hok.1.2; omega
  have e63 : tI s 63 = Int32.ofNat lv := by have := hok.1.1; rw [hlv] at this; exact this
  have e806 : cI c 806 r = Int32.ofNat lv := by rw [hok.2]; exact e63
  have eadd : Int32.ofNat lv + 1 = Int32.ofNat (lv + 1) := by rw [show (1 : Int32) = Int32.ofNat 1 from rfl, z_add]
  rw [kX8_e, r_cck, if_pos hS.1, uX8_e, c_bEs (dc + 30) hS.1 hS.2.1 hR.1, b_I, c_deeper (dc + 19) (bEs s) hS.1 hS.2.1 hw hl, kX7_e, uX7_e, t_bEs, b_I, t_deeper (dt + 30), hR.2.1, e806, e63, eadd]
  simp only [if_true, show (24 : Int32) = Int32.ofNat 24 from rfl, z_eq (show lv < 2147483648 by omega) (show 24 < 2147483648 by omega)]
  obtain ⟨y1, y2, y3, _, _⟩ := lx_mis hR.1 hR.2.1 1 (by decide)
  obtain ⟨z1, _, _, z4, z5⟩ := lx_mis hR.1 hR.2.1 4 (by decide)
  have hnx : ∀ k, cNx (wH c k (cI c 1005 (r + 16))) ≤ cNx c + 300 * (n - f) + 100 ∧ cSl (wH c k (cI c 1005 (r + 16))) ≤ cSl c + 2000 * (n - f) + 800 := fun k => ⟨by rw [(wH_nx _ _ _).1]; omega, by rw [(wH_nx _ _ _).2]; omega⟩
  by_cases q : lv = 24
  · left
    rw [if_pos q, b_Vx]
    cases hb : bEs s
    · simp only [Bool.false_eq_true, if_false, if_true, b_I]
      exact ⟨_, _, 0, _, 1, Int32.ofNat f, rfl, rfl, y1, y2, y3, by decide, (hnx 1).1, (hnx 1).2⟩
    · simp only [Bool.true_eq_false, if_true, if_false, q, b_I]
      exact ⟨_, _, 0, _, 4, Int32.ofNat f, rfl, rfl, z1, z4, z5, by decide, (hnx 4).1, (hnx 4).2⟩
  · obtain ⟨Lt, _, _, _, hO⟩ := hR.2.2.2.2.1
    obtain ⟨hR1, hST1, hc1⟩ := P_es hR (m := lv + 1) (by omega) (by omega)
    rw [if_neg q, b_V]
    have hw1 : cCl (csI c 806 r (Int32.ofNat (lv + 1))) (r + 16) = 10 := hw
    have hcl1 : cCl (csI c 806 r (Int32.ofNat (lv + 1))) r = 8 := hS.1
    have h8001 : cR (csI c 806 r (Int32.ofNat (lv + 1))) 800 r = .ref (r + 16) := hS.2.1
    have hk : ∀ k, cC (dc + 33) 1011 [eR (.ref (r + 16)), eI k] (csI c 806 r (Int32.ofNat (lv + 1))) = some (.inl (some (eI (bi (decide (tI s 8 = 2 ∧ tI s 11 = k))))), csI c 806 r (Int32.ofNat (lv + 1))) := fun k => by
      rw [c_isKey (dc + 32) k hw1]
      simp only [lx_key hR1.1]
      rfl
    simp only [r_cgR, hcl1, h8001, rC, bB, Nat.reduceDiv, Nat.reduceLeDiff, Nat.reduceLT,  eq_self, if_true, if_false, true_and, and_true, false_and, and_false, or_true, true_or, or_false, false_or, reduceIte, reduceCtorEq, Nat.reduceEqDiff, not_true_eq_false, not_false_eq_true, r_misN, r_misR, hk, bi_0, decide_eq_false_iff_not, uX8_e_30]
    cases hb : bEs s
    · left
      unfold bEs at hb
      rw [Bool.or_eq_false_iff, decide_eq_false_iff_not] at hb
      have n3 : ¬ (tI s 8 = 2 ∧ tI s 11 = 3) := fun q => hb.2 ⟨q.1, Or.inl q.2⟩
      have n5 : ¬ (tI s 8 = 2 ∧ tI s 11 = 5) := fun q => hb.2 ⟨q.1, Or.inr (Or.inl q.2)⟩
      have n8 : ¬ (tI s 8 = 2 ∧ tI s 11 = 8) := fun q => hb.2 ⟨q.1, Or.inr (Or.inr q.2)⟩
      simp only [if_true, b_I, n3, n5, n8, not_false_eq_true]
      rw [C_nobE dc hR1.2.2.2.1.1 hR1.1 (by rw [bPre_es]; exact hb.1), b_Rx]
      have hth : thr (wH (csI c 806 r (Int32.ofNat (lv + 1))) 1 (Int32.ofNat f)) (cNx c) 1 (Int32.ofNat f) := thr_wH (csI c 806 r (Int32.ofNat (lv + 1))) 1 (Int32.ofNat f)
      refine ⟨cNx c, _, 0, _, 1, Int32.ofNat f, rfl, rfl, hth, y2, y3, by decide, ?_, ?_⟩
      · rw [(wH_nx _ _ _).1]; show cNx c + 1 ≤ _; omega
      · rw [(wH_nx _ _ _).2]; show cSl c + 8 ≤ _; omega
    · simp only [Bool.true_eq_false, if_false, q, b_I, e10]
      by_cases h3 : tI s 8 = 2 ∧ tI s 11 = 3
      · simp only [h3, and_self, not_true_eq_false, if_false]
        have := P_deep hR hlv (by omega) (hlet vo Op E p f _ _ hc1 hR1 h3.1 h3.2)
        simp only [r_cgI, r_cpI, Nat.reduceDiv] at this ⊢
        exact this
      · by_cases h5 : tI s 8 = 2 ∧ tI s 11 = 5
        · simp only [h3, h5, and_self, not_true_eq_false, not_false_eq_true, if_true, if_false]
          have := P_deep hR hlv (by omega) (hif vo Op E p f _ _ hc1 hR1 h5.1 h5.2)
          simp only [r_cgI, r_cpI, Nat.reduceDiv] at this ⊢
          exact this
        · by_cases h8 : tI s 8 = 2 ∧ tI s 11 = 8
          · simp only [h3, h5, h8, and_self, not_true_eq_false, not_false_eq_true, if_true, if_false]
            have := P_deep hR hlv (by omega) (htry vo Op E p f _ _ hc1 hR1 h8.1 h8.2)
            simp only [r_cgI, r_cpI, Nat.reduceDiv] at this ⊢
            exact this
          · simp only [h3, h5, h8, not_false_eq_true, if_true]
            have := P_deep hR hlv (by omega) (hcmp vo Op E p f _ _ hc1 hR1 (fun z => by
              rcases z.2 with w | w | w
              · exact h3 ⟨z.1, w⟩
              · exact h5 ⟨z.1, w⟩
              · exact h8 ⟨z.1, w⟩))
            simp only [r_cgI, r_cpI, Nat.reduceDiv] at this ⊢
            exact this
end
