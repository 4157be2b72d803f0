set_option maxRecDepth 100000
set_option maxHeartbeats 1000000
/-! D13: the component's small members; joins -/
section
variable {χ : Nat → Int32} {n w t m ks st p f : Nat} {c : cS} {s : tS}
theorem lw_1 (h : LW n w m p f c s) (hk : tI s 8 = 1) : f < p ∧ nm (cL c 1007 w) (tL s 12) := by
  rcases h with ⟨q, r⟩ | ⟨q, r⟩ | ⟨q, r⟩ | ⟨q, r⟩ | ⟨q, r⟩ | ⟨q, r⟩ <;> first | exact r | exact absurd (q.symm.trans hk) (by decide)
theorem lw_2 (h : LW n w m p f c s) (hk : tI s 8 = 2) : f < p ∧ ∃ j, j < 23 ∧ cI c 1006 w = Int32.ofNat j ∧ tI s 11 = Int32.ofNat j ∧ p = f + (kwAt j).length := by
  rcases h with ⟨q, r⟩ | ⟨q, r⟩ | ⟨q, r⟩ | ⟨q, r⟩ | ⟨q, r⟩ | ⟨q, r⟩ <;> first | exact r | exact absurd (q.symm.trans hk) (by decide)
theorem lw_3 (h : LW n w m p f c s) (hk : tI s 8 = 3) : f < p ∧ cI c 1006 w = tI s 11 := by
  rcases h with ⟨q, r⟩ | ⟨q, r⟩ | ⟨q, r⟩ | ⟨q, r⟩ | ⟨q, r⟩ | ⟨q, r⟩ <;> first | exact r | exact absurd (q.symm.trans hk) (by decide)
theorem lw_4 (h : LW n w m p f c s) (hk : tI s 8 = 4) : f < p ∧ ∃ P l tl, cR c 1008 w = .ref P ∧ PT c P l tl ∧ gs l ∧ l.length ≤ m ∧ tl < 3 ∧ tI s 14 = Int32.ofNat l.length ∧ tI s 15 = Int32.ofNat tl ∧ ∀ i, i < l.length → tB s 13 i = p37 (nthD [] l i) := by
  rcases h with ⟨q, r⟩ | ⟨q, r⟩ | ⟨q, r⟩ | ⟨q, r⟩ | ⟨q, r⟩ | ⟨q, r⟩ <;> first | exact r | exact absurd (q.symm.trans hk) (by decide)
theorem lw_5 (h : LW n w m p f c s) (hk : tI s 8 = 5) : f < p ∧ sv (cI c 1006 w) (tI s 11) := by
  rcases h with ⟨q, r⟩ | ⟨q, r⟩ | ⟨q, r⟩ | ⟨q, r⟩ | ⟨q, r⟩ | ⟨q, r⟩ <;> first | exact r | exact absurd (q.symm.trans hk) (by decide)
theorem lw_0 (h : LW n w m p f c s) (hk : tI s 8 = 0) : f = n ∧ p = n := by
  rcases h with ⟨q, r⟩ | ⟨q, r⟩ | ⟨q, r⟩ | ⟨q, r⟩ | ⟨q, r⟩ | ⟨q, r⟩ <;> first | exact r | exact absurd (q.symm.trans hk) (by decide)
theorem lw_lt (h : LW n w m p f c s) (hk : tI s 8 ≠ 0) : f < p := by
  rcases h with ⟨q, r⟩ | ⟨q, r⟩ | ⟨q, r⟩ | ⟨q, r⟩ | ⟨q, r⟩ | ⟨q, r⟩ <;> first | exact r.1 | exact absurd q hk
theorem lx_key (h : LX χ n w t m ks st p f c s) (k : Int32) : (cI c 1004 w = 2 ∧ cI c 1006 w = k) = (tI s 8 = 2 ∧ tI s 11 = k) := by
  obtain ⟨_, _, _, _, h1, h2⟩ := h
  rw [h1]
  by_cases hk : tI s 8 = 2
  · obtain ⟨_, j, _, e1, e2, _⟩ := lw_2 h2 hk
    rw [e1, e2]
  · simp [hk]
theorem lx_sgn (h : LX χ n w t m ks st p f c s) {x : Int32} (hx : x ∈ sgs) : (cI c 1004 w = 5 ∧ cI c 1006 w = x) = (tI s 8 = 5 ∧ tI s 11 = x) := by
  obtain ⟨_, _, _, _, h1, h2⟩ := h
  rw [h1]
  by_cases hk : tI s 8 = 5
  · rw [sv_c (lw_5 h2 hk).2 hx]
  · simp [hk]
theorem lx_bec (h : LX χ n w t m ks st p f c s) : (cI c 1004 w = 5 ∧ cI c 1006 w = 14909) = (tI s 8 = 5 ∧ tI s 11 = 256) := by
  obtain ⟨_, _, _, _, h1, h2⟩ := h
  rw [h1]
  by_cases hk : tI s 8 = 5
  · rw [sv_b (lw_5 h2 hk).2]
  · simp [hk]
theorem lx_ali (h : LX χ n w t m ks st p f c s) : (cI c 1004 w = 5 ∧ cI c 1006 w = 15677) = (tI s 8 = 5 ∧ tI s 11 = 257) := by
  obtain ⟨_, _, _, _, h1, h2⟩ := h
  rw [h1]
  by_cases hk : tI s 8 = 5
  · rw [sv_a (lw_5 h2 hk).2]
  · simp [hk]
theorem c_isKey (d : Nat) (k : Int32) (hw : cCl c w = 10) : cC (d + 1) 1011 [eR (.ref w), eI k] c = some (.inl (some (eI (bi (decide (cI c 1004 w = 2 ∧ cI c 1006 w = k))))), c) := by
  simp only [kX10_isKey, uX10_isKey, hw, rC, bB, Nat.reduceDiv, Nat.reduceLeDiff, Nat.reduceLT,  eq_self, if_true, if_false, true_and, and_true, false_and, and_false, or_true, true_or, or_false, false_or, reduceIte, reduceCtorEq, Nat.reduceEqDiff, not_true_eq_false, not_false_eq_true, r_misN, r_misR]
  by_cases h1 : cI c 1004 w = 2
  · by_cases h2 : cI c 1006 w = k <;> simp [h1, h2, bi]
  · simp [h1, bi]
theorem c_isSign (d : Nat) (k : Int32) (hw : cCl c w = 10) : cC (d + 1) 1013 [eR (.ref w), eI k] c = some (.inl (some (eI (bi (decide (cI c 1004 w = 5 ∧ cI c 1006 w = k))))), c) := by
  simp only [kX10_isSign, uX10_isSign, hw, rC, bB, Nat.reduceDiv, Nat.reduceLeDiff, Nat.reduceLT,  eq_self, if_true, if_false, true_and, and_true, false_and, and_false, or_true, true_or, or_false, false_or, reduceIte, reduceCtorEq, Nat.reduceEqDiff, not_true_eq_false, not_false_eq_true, r_misN, r_misR]
  by_cases h1 : cI c 1004 w = 5
  · by_cases h2 : cI c 1006 w = k <;> simp [h1, h2, bi]
  · simp [h1, bi]
theorem c_signE (d : Nat) (k : Int32) (hw : cCl c w = 10) (hl : w < cNx c) : cC (d + 15) 1012 [eR (.ref w), eI k] c = (if cI c 1004 w = 5 ∧ cI c 1006 w = k then (bV (cC (d + 13) 1001 [eR (.ref w)] c) fun h => some (.inl none, h)) else some (.inr (.ref (cNx c)), wH c 1 (cI c 1005 w))) := by
  rw [kX10_sign_2, r_cck, if_pos hw, uX10_sign_2, c_isSign (d + 13) k hw]
  simp only [rC, bB, Nat.reduceDiv, Nat.reduceLeDiff, Nat.reduceLT,  eq_self, if_true, if_false, true_and, and_true, false_and, and_false, or_true, true_or, or_false, false_or, reduceIte, reduceCtorEq, Nat.reduceEqDiff, not_true_eq_false, not_false_eq_true, r_misN, r_misR, kX10_need, uX10_need, hw, bi_0, decide_eq_false_iff_not]
  by_cases h : cI c 1004 w = 5 ∧ cI c 1006 w = k
  · rw [if_neg (not_not_intro h), if_pos h]
    rcases cC (d + 13) 1001 [eR (.ref w)] c with _ | ⟨((_ | a) | a), h'⟩ <;> rfl
  · rw [if_pos h, if_neg h, c_throw d hw hl]
    rfl
theorem c_keyE (d : Nat) (k : Int32) (hw : cCl c w = 10) (hl : w < cNx c) : cC (d + 15) 1016 [eR (.ref w), eI k] c = (if cI c 1004 w = 2 ∧ cI c 1006 w = k then (bV (cC (d + 13) 1001 [eR (.ref w)] c) fun h => some (.inl none, h)) else some (.inr (.ref (cNx c)), wH c 1 (cI c 1005 w))) := by
  rw [kX10_key, r_cck, if_pos hw, uX10_key, c_isKey (d + 13) k hw]
  simp only [rC, bB, Nat.reduceDiv, Nat.reduceLeDiff, Nat.reduceLT,  eq_self, if_true, if_false, true_and, and_true, false_and, and_false, or_true, true_or, or_false, false_or, reduceIte, reduceCtorEq, Nat.reduceEqDiff, not_true_eq_false, not_false_eq_true, r_misN, r_misR, kX10_need, uX10_need, hw, bi_0, decide_eq_false_iff_not]
  by_cases h : cI c 1004 w = 2 ∧ cI c 1006 w = k
  · rw [if_neg (not_not_intro h), if_pos h]
    rcases cC (d + 13) 1001 [eR (.ref w)] c with _ | ⟨((_ | a) | a), h'⟩ <;> rfl
  · rw [if_pos h, if_neg h, c_throw d hw hl]
    rfl
theorem c_passE (d : Nat) (k : Int32) (hw : cCl c w = 10) : cC (d + 14) 1015 [eR (.ref w), eI k] c = (if cI c 1004 w = 5 ∧ cI c 1006 w = k then (bV (cC (d + 13) 1001 [eR (.ref w)] c) fun h => some (.inl (some (eI 1)), h)) else some (.inl (some (eI 0)), c)) := by
  rw [kX10_passes, r_cck, if_pos hw, uX10_passes, c_isSign (d + 12) k hw]
  simp only [rC, bB, Nat.reduceDiv, Nat.reduceLeDiff, Nat.reduceLT,  eq_self, if_true, if_false, true_and, and_true, false_and, and_false, or_true, true_or, or_false, false_or, reduceIte, reduceCtorEq, Nat.reduceEqDiff, not_true_eq_false, not_false_eq_true, r_misN, r_misR, bi_0, decide_eq_false_iff_not]
  by_cases h : cI c 1004 w = 5 ∧ cI c 1006 w = k
  · rw [if_neg (not_not_intro h), if_pos h]
  · rw [if_pos h, if_neg h]
/-- a fault of the text on both sides: bounds of the heap -/
def pBad (rc : cRes) (rt : tR) (B1 B2 : Nat) : Prop := ∃ a c' r s' k pl, rc = some (.inr (.ref a), c') ∧ rt = some (.inl r, s') ∧ thr c' a k pl ∧ tI s' 6 = k ∧ tI s' 7 = pl ∧ k ≠ 0 ∧ cNx c' ≤ B1 ∧ cSl c' ≤ B2
theorem pBad_of {rc : cRes} {rt : tR} {c : cS} (h : lxBad rc rt c) : pBad rc rt (cNx c + 3) (cSl c + 16) := by
  obtain ⟨a, c', s', k, pl, h1, h2, h3, h4, h5, h6, h7, h8⟩ := h
  exact ⟨a, c', none, s', k, pl, h1, h2, h3, h4, h5, h6, h7, h8⟩
theorem wH_nx (c : cS) (k pl : Int32) : cNx (wH c k pl) = cNx c + 1 ∧ cSl (wH c k pl) = cSl c + 8 := by
  constructor <;> simp [wH, gC]
/-- a word that doesn't fit -/
theorem lx_mis (h : LX χ n w t m ks st p f c s) (hfi : tI s 6 = 0) (k : Int32) (hk : k ≠ 0) : thr (wH c k (cI c 1005 w)) (cNx c) k (Int32.ofNat f) ∧ tI (fH s k (if tI s 8 = 0 then tI s 4 else tI s 9)) 6 = k ∧ tI (fH s k (if tI s 8 = 0 then tI s 4 else tI s 9)) 7 = Int32.ofNat f ∧ tI (fH s k (tI s 9)) 6 = k ∧ tI (fH s k (tI s 9)) 7 = Int32.ofNat f := by
  obtain ⟨h0, _, h1, h2, h3, h4⟩ := h
  have y := fH_6 (s := s) (k := k) (pl := if tI s 8 = 0 then tI s 4 else tI s 9) hfi
  have y2 := fH_6 (s := s) (k := k) (pl := tI s 9) hfi
  refine ⟨by rw [h1]; exact thr_wH _ _ _, y.1, ?_, y2.1, by rw [y2.2, h2]⟩
  rw [y.2]
  split
  · rename_i q
    rw [h0.2.1.1, (lw_0 h4 q).1]
  · exact h2
/-- what a step over a word gives -/
def lxOk (χ : Nat → Int32) (n w t m ks st p : Nat) (c : cS) (s : tS) (c' : cS) (s' : tS) (p' f' : Nat) : Prop := LX χ n w t m ks st p' f' c' s' ∧ p ≤ f' ∧ tI s' 6 = 0 ∧ tI s' 7 = tI s 7 ∧ LFc st c c' ∧ LFt s s' ∧ (tI s' 8 = 0 → cNx c' = cNx c ∧ cSl c' = cSl c)
theorem J_next (d e : Nat) (h : LXb χ n w t m ks st p c s) (hfi : tI s 6 = 0) : lxBad (cC (d + 20) 1001 [eR (.ref w)] c) (cT (e + 20) 6 [eR (.ref 0)] s) c ∨ ∃ c' s' p' f', cC (d + 20) 1001 [eR (.ref w)] c = some (.inl none, c') ∧ cT (e + 20) 6 [eR (.ref 0)] s = some (.inl none, s') ∧ lxOk χ n w t m ks st p c s c' s' p' f' := lx_next d e h hfi
theorem lxBad_V {rc : cRes} {rt : tR} (h : lxBad rc rt c) : lxBad (bV rc fun h => some (.inl none, h)) (bV rt fun h => some (.inl none, h)) c := by
  obtain ⟨a, c', s', k, pl, h1, h2, h3⟩ := h
  exact ⟨a, c', s', k, pl, by rw [h1]; rfl, by rw [h2]; rfl, h3⟩
theorem J_sign (d e : Nat) {x y : Int32} (h : LX χ n w t m ks st p f c s) (hfi : tI s 6 = 0) (hxy : (cI c 1004 w = 5 ∧ cI c 1006 w = x) = (tI s 8 = 5 ∧ tI s 11 = y)) :
    lxBad (cC (d + 22) 1012 [eR (.ref w), eI x] c) (cT (e + 21) 26 [eR (.ref 0), eI y] s) c ∨
    (tI s 8 = 5 ∧ tI s 11 = y) ∧ ∃ c' s' p' f', cC (d + 22) 1012 [eR (.ref w), eI x] c = some (.inl none, c') ∧ cT (e + 21) 26 [eR (.ref 0), eI y] s = some (.inl none, s') ∧ lxOk χ n w t m ks st p c s c' s' p' f' := by
  have hw := h.1.1.1
  have hl := h.1.2.2.2.2.1.1
  rw [c_signE (d + 7) x hw hl, t_signE (e + 17)]
  simp only [hxy, hfi, true_and, if_true]
  by_cases q : tI s 8 = 5 ∧ tI s 11 = y
  · rw [if_pos q, if_pos q]
    rcases J_next d e h.1 hfi with hb | ⟨c', s', p', f', h1, h2, h3⟩
    · left
      exact lxBad_V hb
    · right
      exact ⟨q, c', s', p', f', bV_id h1, bV_id h2, h3⟩
  · rw [if_neg q, if_neg q]
    left
    obtain ⟨y1, y2, y3, _, _⟩ := lx_mis h hfi 1 (by decide)
    exact ⟨_, _, _, _, _, rfl, rfl, y1, y2, y3, by decide, by rw [(wH_nx _ _ _).1]; omega, by rw [(wH_nx _ _ _).2]; omega⟩
theorem J_key (d e : Nat) (x : Int32) (h : LX χ n w t m ks st p f c s) (hfi : tI s 6 = 0) :
    lxBad (cC (d + 22) 1016 [eR (.ref w), eI x] c) (cT (e + 21) 31 [eR (.ref 0), eI x] s) c ∨
    (tI s 8 = 2 ∧ tI s 11 = x) ∧ ∃ c' s' p' f', cC (d + 22) 1016 [eR (.ref w), eI x] c = some (.inl none, c') ∧ cT (e + 21) 31 [eR (.ref 0), eI x] s = some (.inl none, s') ∧ lxOk χ n w t m ks st p c s c' s' p' f' := by
  have hw := h.1.1.1
  have hl := h.1.2.2.2.2.1.1
  rw [c_keyE (d + 7) x hw hl, t_keyE (e + 17)]
  simp only [lx_key h x, hfi, true_and, if_true]
  by_cases q : tI s 8 = 2 ∧ tI s 11 = x
  · rw [if_pos q, if_pos q]
    rcases J_next d e h.1 hfi with hb | ⟨c', s', p', f', h1, h2, h3⟩
    · left
      exact lxBad_V hb
    · right
      exact ⟨q, c', s', p', f', bV_id h1, bV_id h2, h3⟩
  · rw [if_neg q, if_neg q]
    left
    obtain ⟨y1, y2, y3, _, _⟩ := lx_mis h hfi 1 (by decide)
    exact ⟨_, _, _, _, _, rfl, rfl, y1, y2, y3, by decide, by rw [(wH_nx _ _ _).1]; omega, by rw [(wH_nx _ _ _).2]; omega⟩
/-! members of the reader -/
theorem c_must {r : Nat} (d : Nat) (b : Bool) (k : Int32) (hr : cCl c r = 8) (hrw : cR c 800 r = .ref w) (hw : cCl c w = 10) (hl : w < cNx c) : cC (d + 14) 803 [eR (.ref r), eI (bi b), eI k] c = (if b = true then some (.inl none, c) else some (.inr (.ref (cNx c)), wH c k (cI c 1005 w))) := by
  rw [kX8_must, r_cck, if_pos hr, uX8_must]
  simp only [hr, hrw, rC, bB, Nat.reduceDiv, Nat.reduceLeDiff, Nat.reduceLT,  eq_self, if_true, if_false, true_and, and_true, false_and, and_false, or_true, true_or, or_false, false_or, reduceIte, reduceCtorEq, Nat.reduceEqDiff, not_true_eq_false, not_false_eq_true, r_misN, r_misR, c_throw d hw hl]
  cases b <;> simp [bi]
theorem c_name {r : Nat} (d : Nat) (hr : cCl c r = 8) (hrw : cR c 800 r = .ref w) (hw : cCl c w = 10) (hl : w < cNx c) : cC (d + 15) 806 [eR (.ref r)] c = (if cI c 1004 w = 1 then some (.inl (some (eL (cL c 1007 w))), c) else some (.inr (.ref (cNx c)), wH c 1 (cI c 1005 w))) := by
  have h1 := c_must d true 1 hr hrw hw hl
  have h0 := c_must d false 1 hr hrw hw hl
  rw [bi_t] at h1
  rw [bi_f] at h0
  rw [kX8_name, r_cck, if_pos hr, uX8_name]
  simp only [hr, hrw, hw, rC, bB, Nat.reduceDiv, Nat.reduceLeDiff, Nat.reduceLT,  eq_self, if_true, if_false, true_and, and_true, false_and, and_false, or_true, true_or, or_false, false_or, reduceIte, reduceCtorEq, Nat.reduceEqDiff, not_true_eq_false, not_false_eq_true, r_misN, r_misR, h1, h0, Bool.false_eq_true]
theorem c_bPre {r : Nat} (d : Nat) (hr : cCl c r = 8) (hrw : cR c 800 r = .ref w) (h : LX χ n w t m ks st p f c s) : cC (d + 2) 815 [eR (.ref r)] c = some (.inl (some (eI (bi (bPre s)))), c) := by
  have hw := h.1.1.1
  have h4 : cI c 1004 w = tI s 8 := h.2.2.2.2.1
  have e40 := lx_sgn h (x := 40) (by decide)
  have e123 := lx_sgn h (x := 123) (by decide)
  rw [kX8_beginsPrefix, r_cck, if_pos hr, uX8_beginsPrefix]
  simp only [hr, hrw, hw, rC, bB, Nat.reduceDiv, Nat.reduceLeDiff, Nat.reduceLT,  eq_self, if_true, if_false, true_and, and_true, false_and, and_false, or_true, true_or, or_false, false_or, reduceIte, reduceCtorEq, Nat.reduceEqDiff, not_true_eq_false, not_false_eq_true, r_misN, r_misR, c_isSign d _ hw, e40, e123, bi_0, decide_eq_false_iff_not]
  rw [h4]
  unfold bPre
  by_cases h3 : tI s 8 = 3
  · simp [h3, bi]
  · by_cases h1 : tI s 8 = 1
    · simp [h1, bi]
    · by_cases h5 : tI s 8 = 5
      · by_cases q1 : tI s 11 = 123
        · simp [h5, q1, bi]
        · by_cases q2 : tI s 11 = 40 <;> simp [h5, q1, q2, bi]
      · by_cases h2 : tI s 8 = 2
        · obtain ⟨_, j, hj, e1, e2, _⟩ := lw_2 h.2.2.2.2.2 h2
          rw [e1, e2]
          have : ∀ j, j < 23 → (if Int32.ofNat j = 10 then (1 : Int32) else if Int32.ofNat j = 11 then 1 else if Int32.ofNat j = 12 then 1 else if Int32.ofNat j = 13 then 1 else if Int32.ofNat j = 14 then 1 else if Int32.ofNat j = 15 then 1 else if Int32.ofNat j = 16 then 1 else if Int32.ofNat j = 17 then 1 else if Int32.ofNat j = 18 then 1 else if Int32.ofNat j < 19 then 0 else 1) = bi (decide (Int32.ofNat j ∈ ([10, 11, 12, 13, 14, 15, 16, 17, 18, 19, 20, 21, 22] : List Int32))) := by decide
          have := this j hj
          simp only [h2, show ((2 : Int32) = 1) = False from by decide, show ((2 : Int32) = 3) = False from by decide, show ((2 : Int32) = 5) = False from by decide, if_true, if_false, false_or, false_and, true_and, not_false_eq_true]
          rw [← this]
          repeat' split
          all_goals rfl
        · simp [h1, h2, h3, h5, bi]
theorem c_bEs {r : Nat} (d : Nat) (hr : cCl c r = 8) (hrw : cR c 800 r = .ref w) (h : LX χ n w t m ks st p f c s) : cC (d + 3) 814 [eR (.ref r)] c = some (.inl (some (eI (bi (bEs s)))), c) := by
  have hw := h.1.1.1
  rw [kX8_begins, r_cck, if_pos hr, uX8_begins, c_bPre d hr hrw h]
  simp only [hr, hrw, hw, rC, bB, Nat.reduceDiv, Nat.reduceLeDiff, Nat.reduceLT,  eq_self, if_true, if_false, true_and, and_true, false_and, and_false, or_true, true_or, or_false, false_or, reduceIte, reduceCtorEq, Nat.reduceEqDiff, not_true_eq_false, not_false_eq_true, r_misN, r_misR, c_isKey _ _ hw, lx_key h, bi_0, decide_eq_false_iff_not]
  unfold bEs
  cases bPre s
  · by_cases h2 : tI s 8 = 2
    · by_cases q1 : tI s 11 = 3
      · simp [h2, q1, bi]
      · by_cases q2 : tI s 11 = 5
        · simp [h2, q1, q2, bi]
        · by_cases q3 : tI s 11 = 8 <;> simp [h2, q1, q2, q3, bi]
    · simp [h2, bi]
  · simp [bi]
theorem c_deeper {r : Nat} (d : Nat) (b : Bool) (hr : cCl c r = 8) (hrw : cR c 800 r = .ref w) (hw : cCl c w = 10) (hl : w < cNx c) : cC (d + 14) 816 [eR (.ref r), eI (bi b)] c = (if cI c 806 r = 24 then some (.inr (.ref (cNx c)), wH c (if b = true then 4 else 1) (cI c 1005 w)) else some (.inl none, csI c 806 r (cI c 806 r + 1))) := by
  rw [kX8_deeper, r_cck, if_pos hr, uX8_deeper]
  simp only [hr, hrw, rC, bB, Nat.reduceDiv, Nat.reduceLeDiff, Nat.reduceLT,  eq_self, if_true, if_false, true_and, and_true, false_and, and_false, or_true, true_or, or_false, false_or, reduceIte, reduceCtorEq, Nat.reduceEqDiff, not_true_eq_false, not_false_eq_true, r_misN, r_misR, c_throw d hw hl]
  cases b <;> simp [bi]
theorem c_part {r : Nat} (d : Nat) (hr : cCl c r = 8) (hrw : cR c 800 r = .ref w) (hw : cCl c w = 10) (hl : w < cNx c) (hrp : cR c 801 r = .ref (r + 1)) (hp : cCl c (r + 1) = 9) : cC (d + 15) 818 [eR (.ref r)] c = (if cI c 908 (r + 1) < 400 then some (.inl none, csI c 908 (r + 1) (cI c 908 (r + 1) + 1)) else some (.inr (.ref (cNx c)), wH c 4 (cI c 1005 w))) := by
  have h1 := c_must d true 4 hr hrw hw hl
  have h0 := c_must d false 4 hr hrw hw hl
  rw [bi_t] at h1
  rw [bi_f] at h0
  rw [kX8_part, r_cck, if_pos hr, uX8_part]
  simp only [hr, hrp, hp, rC, bB, Nat.reduceDiv, Nat.reduceLeDiff, Nat.reduceLT,  eq_self, if_true, if_false, true_and, and_true, false_and, and_false, or_true, true_or, or_false, false_or, reduceIte, reduceCtorEq, Nat.reduceEqDiff, not_true_eq_false, not_false_eq_true, r_misN, r_misR, uX8_part_9, h1, h0, Bool.false_eq_true]
end
