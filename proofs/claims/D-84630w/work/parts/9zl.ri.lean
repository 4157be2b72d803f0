set_option maxRecDepth 100000
set_option maxHeartbeats 4000000
/-! D86: a place; a right -/
section
variable {XI XL XR XC : List Nat} {c c' : cS} {s s' : tS}
/-- the reference's patterns but one are as they were -/
def pEx (q0 : Nat) (s s' : tS) : Prop := ∀ q, q ≠ q0 → tA s' 18 q = tA s 18 q ∧ tA s' 19 q = tA s 19 q ∧ ∀ i, i < 5 → tB s' 17 (5 * q + i) = tB s 17 (5 * q + i)
theorem pOK_ix (h : CH XI XL XR XC c c') (h1 : dj [1201] XI = true) (h2 : dj [1200] XR = true) {P q : Nat} (hq : tA s' 18 q = tA s 18 q ∧ tA s' 19 q = tA s 19 q ∧ ∀ i, i < 5 → tB s' 17 (5 * q + i) = tB s 17 (5 * q + i)) (hp : pOK c s P q) : pOK c' s' P q := by
  obtain ⟨l, tl, a1, a2, a3, a4, a5, a6, a7⟩ := hp
  exact ⟨l, tl, PT_fr h h1 h2 a1, a2, a3, a4, hq.1.trans a5, hq.2.1.trans a6, fun i hi => (hq.2.2 i (by omega)).trans (a7 i hi)⟩
theorem rOK_ix (h : CH XI XL XR XC c c') (h1 : dj [1201] XI = true) (h2 : dj [1200, 1401] XR = true) (h5 : dj [1400] XL = true) {L of cl : Nat} (hcl : okc cl = true) (h6 : cl ∉ XC) (e23 : tA s' 23 of = tA s 23 of) (e24 : ∀ i, i < 8 → tB s' 24 (8 * of + i) = tB s 24 (8 * of + i))
    (eq : ∀ i, i < 8 → tA s' 18 (16 + (8 * of + i)) = tA s 18 (16 + (8 * of + i)) ∧ tA s' 19 (16 + (8 * of + i)) = tA s 19 (16 + (8 * of + i)) ∧ ∀ j, j < 5 → tB s' 17 (5 * (16 + (8 * of + i)) + j) = tB s 17 (5 * (16 + (8 * of + i)) + j)) (hp : rOK c s L of cl) : rOK c' s' L of cl := by
  obtain ⟨a1, a2, a3, a4⟩ := hp
  have h8 := a2.2
  have h2' : dj [1200] XR = true := by unfold dj at h2 ⊢; simp_all
  refine ⟨ch_cl h a1 (okc_ne hcl).1, by rw [aok_eq e23]; exact a2, by rw [ca_eq e23]; exact lsr_fr h a1 hcl h6 (by decide) a3, fun i hi => ?_⟩
  rw [ca_eq e23] at hi
  obtain ⟨b1, P, b2, b3⟩ := a4 i hi
  have hc := (a3.2 i hi).2
  rw [ch_lid h a1 hcl h6, ch_L h hc (by decide) (dj_not h5 (by simp)), ch_R h hc (by decide) (dj_not h2 (by simp)), e24 i (by omega)]
  exact ⟨b1, P, b2, pOK_ix h h1 h2' (eq i (by omega)) b3⟩
end
section
variable {χ : Nat → Int32} {n w t m ks st p f r : Nat} {c : cS} {s : tS}
theorem t_pat1 (dt : Nat) {q : Nat} (hfi : tI s 6 = 0) (h : ¬ (tI s 8 = 4 ∧ tI s 15 ≠ 0)) : cT (dt + 21) 23 [eR (.ref 0), eI (Int32.ofNat q), eI 1] s = cT (dt + 21) 23 [eR (.ref 0), eI (Int32.ofNat q), eI 0] s := by
  rw [kX7_pattern, uX7_pattern, kX7_pattern, uX7_pattern, t_fine (dt + 19), b_I, b_I, hfi, decide_eq_true rfl, bi_t, if_neg n10, if_neg n10]
  by_cases h4 : tI s 8 = (4 : Int32)
  · have h15 : tI s 15 = 0 := Decidable.byContradiction (fun z => h ⟨h4, z⟩)
    rw [if_pos h4, if_pos h4, if_neg n10, if_pos rfl, if_pos h15]
  · rw [if_neg h4, if_neg n10, if_neg h4]
theorem J_place (dc dt : Nat) {q : Nat} (hq : q < 266) (hr : cCl c r = 8) (hrw : cR c 800 r = .ref w) (hL : LX χ n w t m ks st p f c s) (hfi : tI s 6 = 0) :
    (∃ a c' s' k pl, cC (dc + 22) 808 [eR (.ref r)] c = some (.inr (.ref a), c') ∧ cT (dt + 21) 23 [eR (.ref 0), eI (Int32.ofNat q), eI 1] s = some (.inl none, s') ∧ thr c' a k pl ∧ tI s' 6 = k ∧ tI s' 7 = pl ∧ k ≠ 0 ∧ cNx c' ≤ cNx c + 3 ∧ cSl c' ≤ cSl c + 16) ∨
    tI s 8 = 4 ∧ tI s 15 = 0 ∧ ∃ P c' s' p' f', cC (dc + 22) 808 [eR (.ref r)] c = some (.inl (some (eR (.ref P))), c') ∧ cT (dt + 21) 23 [eR (.ref 0), eI (Int32.ofNat q), eI 1] s = some (.inl none, s') ∧ patOK χ n w t m ks st p c s q P c' s' p' f' := by
  have hw := hL.1.1.1
  have hl := hL.1.2.2.2.2.1.1
  have e4 : cI c 1004 w = tI s 8 := hL.2.2.2.2.1
  rw [kX8_place, r_cck, if_pos hr, uX8_place, r_cgR, if_pos hr, hrw, r_cgI, if_pos hw, e4]
  by_cases h4 : tI s 8 = 4
  · have em : cC (dc + 21) 803 [eR (.ref r), eI 1, eI 1] c = some (.inl none, c) := (c_must (dc + 7) true 1 hr hrw hw hl).trans (if_pos rfl)
    have h4' : tI s 8 = (4 : Int32) := h4
    obtain ⟨_, P, l, tl, w1, w2, w3, w4, w5, w6, w7, w8⟩ := lw_4 hL.2.2.2.2.2 h4
    have e12 : cI c 1201 P = tI s 15 := by obtain ⟨_, _, A, _, _, _, _, _, e⟩ := w2; rw [e, w7]
    have eP : cC (dc + 21) 1201 [eR (.ref P)] c = some (.inl (some (eI (bi (decide (tI s 15 = 0))))), c) := by
      rw [kX12_isPlace, r_cck, if_pos w2.1, uX12_isPlace, r_cgI, if_pos w2.1, e12]
      by_cases z : tI s 15 = 0
      · rw [if_pos z, decide_eq_true z, bi_t]
      · rw [if_neg z, decide_eq_false z, bi_f]
    rw [if_pos h4', uX8_place_9, em, b_V, r_cgR, if_pos hr, hrw, r_cgR, if_pos hw, w1, eP, b_I]
    by_cases h15 : tI s 15 = 0
    · have em5 : cC (dc + 21) 803 [eR (.ref r), eI (bi true), eI 5] c = some (.inl none, c) := (c_must (dc + 7) true 5 hr hrw hw hl).trans (if_pos rfl)
      rw [decide_eq_true h15, em5, b_V, t_pat1 dt hfi (fun z => z.2 h15)]
      rcases J_pat dc dt hq hr hrw hL hfi with ⟨a, c', s', k, pl, v1, v2, v3, v4, v5, v6, v7, v8⟩ | ⟨_, P', c', s', p', f', w1', w2', w3'⟩
      · left
        rw [v1, b_Rx]
        exact ⟨a, c', s', k, pl, rfl, v2, v3, v4, v5, v6, v7, v8⟩
      · right
        rw [w1', b_R]
        exact ⟨h4, h15, P', c', s', p', f', rfl, w2', w3'⟩
    · left
      have em5 : cC (dc + 21) 803 [eR (.ref r), eI (bi false), eI 5] c = some (.inr (.ref (cNx c)), wH c 5 (cI c 1005 w)) := (c_must (dc + 7) false 5 hr hrw hw hl).trans (if_neg (by decide))
      obtain ⟨z1, _, _, z4, z5⟩ := lx_mis hL hfi 5 (by decide)
      obtain ⟨n1, n2⟩ := wH_nx c 5 (cI c 1005 w)
      rw [decide_eq_false h15, em5, b_Vx, kX7_pattern, uX7_pattern, t_fine (dt + 19), b_I, hfi, decide_eq_true rfl, bi_t, if_neg n10, if_pos h4', if_neg n10, if_neg h15, t_fails (dt + 18), b_V]
      exact ⟨_, _, _, _, _, rfl, rfl, z1, z4, z5, by decide, by omega, by omega⟩
  · left
    have em : cC (dc + 21) 803 [eR (.ref r), eI 0, eI 1] c = some (.inr (.ref (cNx c)), wH c 1 (cI c 1005 w)) := (c_must (dc + 7) false 1 hr hrw hw hl).trans (if_neg (by decide))
    have h4' : ¬ tI s 8 = (4 : Int32) := h4
    obtain ⟨z1, z2, z3, _, _⟩ := lx_mis hL hfi 1 (by decide)
    obtain ⟨n1, n2⟩ := wH_nx c 1 (cI c 1005 w)
    rw [if_neg h4', uX8_place_9, em, b_Vx, t_pat1 dt hfi (fun z => h4 z.1), kX7_pattern, uX7_pattern, t_fine (dt + 19), b_I, hfi, decide_eq_true rfl, bi_t, if_neg n10, if_neg h4', t_misfit (dt + 18), b_V]
    exact ⟨_, _, _, _, _, rfl, rfl, z1, z2, z3, by decide, by omega, by omega⟩
end
