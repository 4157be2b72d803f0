set_option maxRecDepth 100000
set_option maxHeartbeats 4000000
/-! D85: a pattern is read and kept -/
/-- the reference keeps the pattern at hand, of n steps, as its pattern q -/
def kpT (s : tS) (q n : Nat) : tS := tsA (tsA (tfB s 17 (fun j => if 5 * q ≤ j ∧ j < 5 * q + n then tB s 13 (j - 5 * q) else tB s 17 j)) 18 q (tI s 14)) 19 q (tI s 15)
theorem kp_I (s : tS) (q n x : Nat) : tI (kpT s q n) x = tI s x := rfl
theorem kp_L (s : tS) (q n x : Nat) : tL (kpT s q n) x = tL s x := rfl
theorem kp_th (s : tS) (q n : Nat) : TH [] [] [18, 19] [17] s (kpT s q n) := by
  refine ⟨fun _ _ => rfl, fun _ _ => rfl, fun x j hx => ?_, fun x j hx => ?_⟩
  · show tA (tsA (tsA _ 18 q _) 19 q _) x j = _
    rw [t_A_A, if_neg (fun z => hx (by simp [z.1])), t_A_A, if_neg (fun z => hx (by simp [z.1])), tfB_A]
  · show tB (tfB s 17 _) x j = _
    rw [tfB_B, if_neg (by simpa using hx)]
theorem kp_new (s : tS) (q n : Nat) : tA (kpT s q n) 18 q = tI s 14 ∧ tA (kpT s q n) 19 q = tI s 15 ∧ ∀ i, i < n → tB (kpT s q n) 17 (5 * q + i) = tB s 13 i := by
  refine ⟨?_, ?_, fun i hi => ?_⟩
  · show tA (tsA (tsA _ 18 q _) 19 q _) 18 q = _
    rw [t_A_A, if_neg (by omega), t_A_A, if_pos ⟨rfl, rfl⟩]
  · show tA (tsA (tsA _ 18 q _) 19 q _) 19 q = _
    rw [t_A_A, if_pos ⟨rfl, rfl⟩]
  · have e : tB (kpT s q n) 17 (5 * q + i) = tB (tfB s 17 (fun j => if 5 * q ≤ j ∧ j < 5 * q + n then tB s 13 (j - 5 * q) else tB s 17 j)) 17 (5 * q + i) := rfl
    rw [e, tfB_B, if_pos rfl, if_pos (by omega)]
    congr 1; omega
theorem kp_old (s : tS) {q n k : Nat} (hk : k ≠ q) (hn : n ≤ 5) : tA (kpT s q n) 18 k = tA s 18 k ∧ tA (kpT s q n) 19 k = tA s 19 k ∧ ∀ i, i < 5 → tB (kpT s q n) 17 (5 * k + i) = tB s 17 (5 * k + i) := by
  refine ⟨?_, ?_, fun i hi => ?_⟩
  · show tA (tsA (tsA _ 18 q _) 19 q _) 18 k = _
    rw [t_A_A, if_neg (by omega), t_A_A, if_neg (fun z => hk z.2), tfB_A]
  · show tA (tsA (tsA _ 18 q _) 19 q _) 19 k = _
    rw [t_A_A, if_neg (fun z => hk z.2), t_A_A, if_neg (by omega), tfB_A]
  · have e : tB (kpT s q n) 17 (5 * k + i) = tB (tfB s 17 (fun j => if 5 * q ≤ j ∧ j < 5 * q + n then tB s 13 (j - 5 * q) else tB s 17 j)) 17 (5 * k + i) := rfl
    rw [e, tfB_B, if_pos rfl, if_neg (by omega)]
theorem keep_loop (e : Nat) {s : tS} {q n : Nat} (hq : q < 266) (hn : n ≤ 5) (h14 : tI s 14 = Int32.ofNat n) : ∀ j k, k + j = n → fX7_keepPattern_2 (cT e) (Int32.ofNat q) (Int32.ofNat k) (tfB s 17 (fun j => if 5 * q ≤ j ∧ j < 5 * q + k then tB s 13 (j - 5 * q) else tB s 17 j)) = some (.inl none, kpT s q n) := by
  intro j
  induction j with
  | zero =>
    intro k hk
    have hkn : k = n := by omega
    rw [hkn, uX7_keepPattern_2, tfB_I, h14, if_neg (by rw [z_lt (by omega) (by omega)]; omega), qs_18 hq, qs_19 hq]
    unfold kpT
    rw [h14]
    rfl
  | succ j ih =>
    intro k hk
    have e5 : (5 : Int32) * Int32.ofNat q + Int32.ofNat k = Int32.ofNat (5 * q + k) := by
      rw [show (5 : Int32) = Int32.ofNat 5 from rfl, z_mul, z_add]
    have ek : Int32.ofNat k + 1 = Int32.ofNat (k + 1) := by rw [show (1 : Int32) = Int32.ofNat 1 from rfl, z_add]
    rw [uX7_keepPattern_2, tfB_I, h14, if_pos (by rw [z_lt (by omega) (by omega)]; omega), q_13 (by omega), tfB_B, if_neg (by decide), e5, qs_17 (by omega), ek, tsB_f, to_fB]
    have ef : (fun i => if i = 5 * q + k then tB s 13 k else tB (tfB s 17 (fun j => if 5 * q ≤ j ∧ j < 5 * q + k then tB s 13 (j - 5 * q) else tB s 17 j)) 17 i) = (fun j => if 5 * q ≤ j ∧ j < 5 * q + (k + 1) then tB s 13 (j - 5 * q) else tB s 17 j) := by
      funext i
      rw [tfB_B, if_pos rfl]
      by_cases h1 : i = 5 * q + k
      · rw [if_pos h1, if_pos (by omega)]
        congr 1; omega
      · rw [if_neg h1]
        by_cases h2 : 5 * q ≤ i ∧ i < 5 * q + k
        · rw [if_pos h2, if_pos (by omega)]
        · rw [if_neg h2, if_neg (by omega)]
    rw [ef]
    exact ih (k + 1) (by omega)
theorem t_keep (e : Nat) {s : tS} {q n : Nat} (hq : q < 266) (hn : n ≤ 5) (h14 : tI s 14 = Int32.ofNat n) : cT (e + 1) 25 [eR (.ref 0), eI (Int32.ofNat q)] s = some (.inl none, kpT s q n) := by
  rw [kX7_keepPattern, uX7_keepPattern]
  have := keep_loop e hq hn h14 n 0 (by omega)
  rw [show (tfB s 17 (fun j => if 5 * q ≤ j ∧ j < 5 * q + 0 then tB s 13 (j - 5 * q) else tB s 17 j)) = s from by
    have : (fun j => if 5 * q ≤ j ∧ j < 5 * q + 0 then tB s 13 (j - 5 * q) else tB s 17 j) = tB s 17 := by
      funext i; rw [if_neg (by omega)]
    rw [this, tself_fB]] at this
  exact this
section
variable {χ : Nat → Int32} {n w t m ks st p f r : Nat} {c : cS} {s : tS}
theorem LXb_s {s' : tS} (hI : ∀ x, x ∈ [4, 10, 16] → tI s' x = tI s x) (hA : ∀ k, tA s' 3 k = tA s 3 k) (h : LXb χ n w t m ks st p c s) : LXb χ n w t m ks st p c s' := by
  obtain ⟨hW, ⟨x1, x2, x3, x4⟩, hK, h1, h2, ⟨m1, m2, m3⟩, ⟨p1, p2, p3⟩⟩ := h
  exact ⟨hW, ⟨by rw [hI 4 (by simp)]; exact x1, x2, fun k hk => by rw [hA]; exact x3 k hk, x4⟩, hK, h1, h2, ⟨m1, m2, by rw [hI 16 (by simp)]; exact m3⟩, ⟨p1, p2, by rw [hI 10 (by simp)]; exact p3⟩⟩
/-- what was read as a pattern -/
def patOK (χ : Nat → Int32) (n w t m ks st p : Nat) (c : cS) (s : tS) (q P : Nat) (c' : cS) (s' : tS) (p' f' : Nat) : Prop := ∃ l tl, lxOk χ n w t m ks st p c (kpT s q l.length) c' s' p' f' ∧ PT c P l tl ∧ gs l ∧ l.length ≤ m ∧ tl < 3 ∧ tI s 14 = Int32.ofNat l.length ∧ tI s 15 = Int32.ofNat tl ∧ ∀ i, i < l.length → tB s 13 i = p37 (nthD [] l i)
theorem J_pat0 (dc dt : Nat) {q : Nat} (hq : q < 266) (hr : cCl c r = 8) (hrw : cR c 800 r = .ref w) (hL : LX χ n w t m ks st p f c s) (hfi : tI s 6 = 0) (h4 : tI s 8 = 4) :
    lxBad (bV (cC (dc + 20) 1001 [eR (.ref w)] c) fun h => some (.inl none, h)) (bV (cT (dt + 20) 25 [eR (.ref 0), eI (Int32.ofNat q)] s) fun h => bV (cT (dt + 20) 6 [eR (.ref 0)] h) fun h => some (.inl none, h)) c ∨
    ∃ P c' s' p' f', cR c 1008 w = .ref P ∧ cC (dc + 20) 1001 [eR (.ref w)] c = some (.inl none, c') ∧ (bV (cT (dt + 20) 25 [eR (.ref 0), eI (Int32.ofNat q)] s) fun h => bV (cT (dt + 20) 6 [eR (.ref 0)] h) fun h => some (.inl none, h)) = some (.inl none, s') ∧ patOK χ n w t m ks st p c s q P c' s' p' f' := by
  obtain ⟨_, P, l, tl, w1, w2, w3, w4, w5, w6, w7, w8⟩ := lw_4 hL.2.2.2.2.2 h4
  have hm5 := hL.1.2.2.2.2.2.1.1
  rw [t_keep (dt + 19) hq (by omega) w6, b_V]
  rcases J_next dc dt (LXb_s (s' := kpT s q l.length) (fun _ _ => rfl) (fun k => th_A (kp_th _ _ _) (by decide) k) hL.1) hfi with hb | ⟨c', s', p', f', e1, e2, hk⟩
  · left
    exact lxBad_V hb
  · right
    exact ⟨P, c', s', p', f', w1, e1, bV_id e2, l, tl, hk, w2, w3, w4, w5, w6, w7, w8⟩
theorem J_pat (dc dt : Nat) {q : Nat} (hq : q < 266) (hr : cCl c r = 8) (hrw : cR c 800 r = .ref w) (hL : LX χ n w t m ks st p f c s) (hfi : tI s 6 = 0) :
    (∃ a c' s' k pl, cC (dc + 21) 804 [eR (.ref r)] c = some (.inr (.ref a), c') ∧ cT (dt + 21) 23 [eR (.ref 0), eI (Int32.ofNat q), eI 0] s = some (.inl none, s') ∧ thr c' a k pl ∧ tI s' 6 = k ∧ tI s' 7 = pl ∧ k ≠ 0 ∧ cNx c' ≤ cNx c + 3 ∧ cSl c' ≤ cSl c + 16) ∨
    tI s 8 = 4 ∧ ∃ P c' s' p' f', cC (dc + 21) 804 [eR (.ref r)] c = some (.inl (some (eR (.ref P))), c') ∧ cT (dt + 21) 23 [eR (.ref 0), eI (Int32.ofNat q), eI 0] s = some (.inl none, s') ∧ patOK χ n w t m ks st p c s q P c' s' p' f' := by
  have hw := hL.1.1.1
  have hl := hL.1.2.2.2.2.1.1
  have e4 : cI c 1004 w = tI s 8 := hL.2.2.2.2.1
  obtain ⟨z1, z2, z3, _, _⟩ := lx_mis hL hfi 1 (by decide)
  rw [kX8_pattern, r_cck, if_pos hr, uX8_pattern, r_cgR, if_pos hr, hrw, r_cgI, if_pos hw, e4, kX7_pattern, uX7_pattern, t_fine (dt + 19), b_I, hfi, decide_eq_true rfl, bi_t, if_neg n10]
  by_cases h4 : tI s 8 = 4
  · have em : cC (dc + 20) 803 [eR (.ref r), eI 1, eI 1] c = some (.inl none, c) := (c_must (dc + 6) true 1 hr hrw hw hl).trans (if_pos rfl)
    have h4' : tI s 8 = (4 : Int32) := h4
    rw [if_pos h4', if_pos h4', if_pos rfl, uX8_pattern_9, em, b_V, r_cgR, if_pos hr, hrw, r_cgR, if_pos hw, r_cgR, if_pos hr, hrw]
    rcases J_pat0 dc dt hq hr hrw hL hfi h4 with ⟨a, c', s', k, pl, v1, v2, v3, v4, v5, v6, v7, v8⟩ | ⟨P, c', s', p', f', w1, w2, w3, w4⟩
    · left
      have v1' : cC (dc + 20) 1001 [eR (.ref w)] c = some (.inr (.ref a), c') := by
        rcases hx : cC (dc + 20) 1001 [eR (.ref w)] c with _ | ⟨((_ | (x | (x | x))) | x), h⟩ <;> rw [hx] at v1
        · cases v1
        · cases v1
        · cases v1
        · cases v1
        · cases v1
        · exact v1
      rw [v1', b_Vx]
      exact ⟨a, c', s', k, pl, rfl, v2, v3, v4, v5, v6, v7, v8⟩
    · right
      rw [w1, w2, b_V]
      exact ⟨h4, P, c', s', p', f', rfl, w3, w4⟩
  · left
    have em : cC (dc + 20) 803 [eR (.ref r), eI 0, eI 1] c = some (.inr (.ref (cNx c)), wH c 1 (cI c 1005 w)) := (c_must (dc + 6) false 1 hr hrw hw hl).trans (if_neg (by decide))
    have h4' : ¬ tI s 8 = (4 : Int32) := h4
    obtain ⟨n1, n2⟩ := wH_nx c 1 (cI c 1005 w)
    rw [if_neg h4', if_neg h4', uX8_pattern_9, em, b_Vx, t_misfit (dt + 18), b_V]
    exact ⟨_, _, _, _, _, rfl, rfl, z1, z2, z3, by decide, by omega, by omega⟩
end
