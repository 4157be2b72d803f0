set_option maxRecDepth 100000
set_option maxHeartbeats 4000000
/-! D108: words at any state; grants -/
section
variable {χ : Nat → Int32} {n w t m ks st p f : Nat} {c : cS} {s : tS}
/-- over a word, the reference's other counters aside -/
theorem J_nextO (d e : Nat) (h : LXb χ n w t m ks st p c s) {q : tS} (h6 : tI q 6 = 0) (h60 : tI s 6 = 0) (hI : ∀ x, x ∈ [4, 8, 9, 10, 11, 14, 15, 16] → tI q x = tI s x) (h3 : ∀ k, tA q 3 k = tA s 3 k) :
    lxBad (cC (d + 20) 1001 [eR (.ref w)] c) (cT (e + 20) 6 [eR (.ref 0)] q) c ∨ ∃ c' z p' f', cC (d + 20) 1001 [eR (.ref w)] c = some (.inl none, c') ∧ cT (e + 20) 6 [eR (.ref 0)] q = some (.inl none, z) ∧ ov z q = z ∧ lxOk χ n w t m ks st p c s c' (ov z s) p' f' := by
  obtain ⟨a1, a2, a3, a4, a5, ⟨a6, a7, a8⟩, a9, a10, a11⟩ := h
  have hL : LXb χ n w t m ks st p c q := ⟨a1, ⟨(hI 4 (by simp)).trans a2.1, a2.2.1, fun k hk => (h3 k).trans (a2.2.2.1 k hk), a2.2.2.2⟩, a3, a4, a5, ⟨a6, a7, (hI 16 (by simp)).trans a8⟩, a9, a10, (hI 10 (by simp)).trans a11⟩
  rcases J_next d e hL h6 with hb | ⟨c', z, p', f', h1, h2, h3'⟩
  · left; exact hb
  · right
    obtain ⟨⟨⟨b1, ⟨b2, b2a, b2b, b2c⟩, b3, b4, b5, ⟨b6, b7, b8⟩, b9, b10, b11⟩, g1, g2, g3, g4, g5⟩, j1, j2, j3, j4, j5, j6⟩ := h3'
    have hz := ov_self j5
    refine ⟨c', z, p', f', h1, h2, hz, ⟨⟨⟨b1, ⟨?_, b2a, fun k hk => a2.2.2.1 k hk, b2c⟩, b3, b4, b5, ⟨b6, b7, ?_⟩, b9, b10, ?_⟩, g1, g2, ?_, ?_, ?_⟩, j1, ?_, ?_, j4, LFt_ov z s, ?_⟩⟩
    · rw [ov_tI z s (by decide)]; exact a2.1
    · rw [ov_tI z s (by decide)]; exact a8
    · rw [ov_tIz z s (by decide)]; exact b11
    · rw [ov_tIz z s (by decide)]; exact g3
    · rw [ov_tIz z s (by decide)]; exact g4
    · have e8 : tI (ov z s) 8 = tI z 8 := ov_tIz z s (by decide)
      have e11 : tI (ov z s) 11 = tI z 11 := ov_tIz z s (by decide)
      have e14 : tI (ov z s) 14 = tI z 14 := ov_tIz z s (by decide)
      have e15 : tI (ov z s) 15 = tI z 15 := ov_tIz z s (by decide)
      have e12 : tL (ov z s) 12 = tL z 12 := show (if (12 : Nat) = 12 then z.2.1 12 else s.2.1 12) = _ from if_pos rfl
      have e13 : ∀ i, tB (ov z s) 13 i = tB z 13 i := fun i => show (if (13 : Nat) = 13 then z.2.2.2 13 i else s.2.2.2 13 i) = _ from if_pos rfl
      unfold LW at g5 ⊢
      simp only [e8, e11, e14, e15, e12, e13]
      exact g5
    · rw [ov_tI z s (by decide)]; exact h60
    · rw [ov_tI z s (by decide)]
    · rw [ov_tIz z s (by decide)]; exact j6
theorem J_signO (d e : Nat) (k : Int32) (h : LX χ n w t m ks st p f c s) {q : tS} (h6 : tI q 6 = 0) (h60 : tI s 6 = 0) (hI : ∀ x, x ∈ [4, 8, 9, 10, 11, 14, 15, 16] → tI q x = tI s x) (h3 : ∀ k, tA q 3 k = tA s 3 k) (hxy : (cI c 1004 w = 5 ∧ cI c 1006 w = k) = (tI s 8 = 5 ∧ tI s 11 = k)) :
    lxBad (cC (d + 22) 1012 [eR (.ref w), eI k] c) (cT (e + 21) 26 [eR (.ref 0), eI k] q) c ∨ (tI s 8 = 5 ∧ tI s 11 = k) ∧ ∃ c' z p' f', cC (d + 22) 1012 [eR (.ref w), eI k] c = some (.inl none, c') ∧ cT (e + 21) 26 [eR (.ref 0), eI k] q = some (.inl none, z) ∧ ov z q = z ∧ lxOk χ n w t m ks st p c s c' (ov z s) p' f' := by
  have hw := h.1.1.1
  have hl := h.1.2.2.2.2.1.1
  rw [c_signE (d + 7) k hw hl, t_signE (e + 17)]
  simp only [hxy, h6, hI 8 (by simp), hI 11 (by simp), true_and, if_true]
  by_cases wq : tI s 8 = 5 ∧ tI s 11 = k
  · rw [if_pos wq, if_pos wq]
    rcases J_nextO d e h.1 h6 h60 hI h3 with hb | ⟨c', z, p', f', h1, h2, h3, h4⟩
    · left
      exact lxBad_V hb
    · right
      exact ⟨wq, c', z, p', f', bV_id h1, bV_id h2, h3, h4⟩
  · rw [if_neg wq, if_neg wq]
    left
    obtain ⟨y1, _, y3, _, _⟩ := lx_mis h h60 1 (by decide)
    have hj : tI s 9 = Int32.ofNat f := h.2.2.2.1
    refine ⟨_, _, _, _, _, rfl, rfl, y1, (fH_6 h6).1, ?_, by decide, by rw [(wH_nx _ _ _).1]; omega, by rw [(wH_nx _ _ _).2]; omega⟩
    rw [(fH_6 h6).2, hI 4 (by simp), hI 9 (by simp)]
    by_cases w8 : tI s 8 = 0
    · rw [if_pos w8] at y3 ⊢
      rw [(fH_6 h60).2] at y3; exact y3
    · rw [if_neg w8]; exact hj
/-- what the reference's `next` leaves alone, behind a fault as well -/
theorem J_next_fr (e : Nat) (h : LX χ n w t m ks st p f c s) (hfi : tI s 6 = 0) {s' : tS} (h1 : cT (e + 20) 6 [eR (.ref 0)] s = some (.inl none, s')) : TH [6, 7, 8, 9, 10, 11, 14, 15] [12] [] [13] s s' := by
  obtain ⟨hW, hX, hK, _, _, ⟨m1, m2, m3⟩, ⟨p1, p2, p3⟩⟩ := h.1
  exact t_next_fr e hX (fun k hk => by
    rw [← hW.2.2.2.2.2.2.1 k hk]
    exact and255 _) m1 m3 hfi p1 p3 h1
/-- what a step over a word costs -/
theorem LXR {c' : cS} {s' : tS} {p' f' : Nat} (hL : LX χ n w t m ks st p f c s) (hk : lxOk χ n w t m ks st p c s c' s' p' f') : f ≤ f' ∧ p ≤ f' ∧ f' ≤ p' ∧ p' ≤ n ∧ cNx c' + 300 * (n - f') ≤ cNx c + 300 * (n - f) ∧ cSl c' + 2000 * (n - f') ≤ cSl c + 2000 * (n - f) ∧ cSl c ≤ cSl c' ∧ (tI s 8 ≠ 0 → f < f' ∧ cNx c' + 300 * (n - f') + 298 ≤ cNx c + 300 * (n - f) ∧ cSl c' + 2000 * (n - f') + 1992 ≤ cSl c + 2000 * (n - f)) := by
  obtain ⟨hL', hpf, hfi', h7, hlf, hlt, hend⟩ := hk
  have hp := hL.1.2.2.2.2.2.2.1
  have hp' := hL'.1.2.2.2.2.2.2.1
  have hf := hL.2.1
  have hf' := hL'.2.1
  have hw := hL.2.2.2.2.2
  have w1 := hlf.2.1
  have w2 := hlf.2.2.2.1
  refine ⟨by omega, hpf, hf', hp', ?_, ?_, hlf.2.2.1, fun q => ?_⟩
  · by_cases q : tI s 8 = 0
    · have := lw_0 hw q
      by_cases q' : tI s' 8 = 0
      · have := (hend q').1; omega
      · have := lw_lt hL'.2.2.2.2.2 q'; omega
    · have := lw_lt hw q; omega
  · by_cases q : tI s 8 = 0
    · have := lw_0 hw q
      by_cases q' : tI s' 8 = 0
      · have := (hend q').2; omega
      · have := lw_lt hL'.2.2.2.2.2 q'; omega
    · have := lw_lt hw q; omega
  · have := lw_lt hw q
    omega
end
section
variable {χ : Nat → Int32} {n t r p f : Nat} {c c' : cS} {s s' : tS}
/-- while grants are read -/
def R1 (χ : Nat → Int32) (n t r p f : Nat) (c : cS) (s : tS) : Prop := LX χ n (r + 16) t 4 (r + 19) (r + 17) p f c s ∧ tI s 6 = 0 ∧ CLN c ∧ (RSt r c ∧ RCt r c s ∧ RGt r c s) ∧ (∀ x, x ∈ [22, 25, 35, 48, 50, 56, 63, 65] → tI s x = 0) ∧ ∀ L, L ∈ [4, 6, 8, 9, 11, 15] → cLs c (r + L) = []
theorem R1_fr {XI XL XR XC YI YL YA YB : List Nat} {p' f' : Nat} (h : R1 χ n t r p f c s) (hL' : LX χ n (r + 16) t 4 (r + 19) (r + 17) p' f' c' s') (hfi : tI s' 6 = 0) (hcl : CLN c') (hch : CH XI XL XR XC c c') (hth : TH YI YL YA YB s s') (hG : RGt r c' s') (hd : (dj [806, 908, 1201] XI && dj [800, 801, 805, 900, 901, 902, 903, 904, 905, 906, 907] XR && dj [5901, 5902, 5903, 5904, 5905, 5805, 5906, 5907] XC && dj [22, 25, 35, 48, 50, 56, 58, 60, 62, 63, 65] YI && dj [59] YA && dj [61] YB) = true) : R1 χ n t r p' f' c' s' := by
  simp only [Bool.and_eq_true] at hd
  obtain ⟨⟨⟨⟨⟨d1, d2⟩, d6⟩, d3⟩, d4⟩, d5⟩ := hd
  obtain ⟨_, _, hn, ⟨hS, hC, _⟩, hz, hl⟩ := h
  obtain ⟨s1, s2, s3, s4, s5, a, b1, b2, b3, b4, b5, b6, b7, b8, b9, b10⟩ := id hS
  refine ⟨hL', hfi, hcl, ⟨RSt_fr hch d2 hS, RCt_fr hch hth hS ?_ hC, hG⟩, fun x hx => ?_, fun L hx => ?_⟩
  · simp only [Bool.and_eq_true]
    exact ⟨⟨⟨⟨dj_sub (by decide) d1, dj_sub (by decide) d6⟩, dj_sub (by decide) d3⟩, d4⟩, d5⟩
  · rw [th_I hth (dj_not d3 (by simp only [List.mem_cons, List.not_mem_nil, or_false] at hx ⊢; omega))]; exact hz x hx
  · have e : ∃ k, cCl c (r + L) = k ∧ k ≠ 0 ∧ k ∈ [5901, 5902, 5903, 5904, 5905, 5805] := by
      simp only [List.mem_cons, List.not_mem_nil, or_false] at hx
      rcases hx with rfl | rfl | rfl | rfl | rfl | rfl
      · exact ⟨_, b2, by decide, by decide⟩
      · exact ⟨_, b3, by decide, by decide⟩
      · exact ⟨_, b4, by decide, by decide⟩
      · exact ⟨_, b5, by decide, by decide⟩
      · exact ⟨_, b6, by decide, by decide⟩
      · exact ⟨_, b9, by decide, by decide⟩
    obtain ⟨k, e1, e2, e3⟩ := e
    rw [hch.2.2.2.2.2.1 (r + L) (by rw [e1]; exact dj_not d6 (by simp only [List.mem_cons, List.not_mem_nil, or_false] at e3 ⊢; omega)) (by rw [e1]; exact e2)]
    exact hl L hx
theorem R1_ok {p' f' : Nat} (h : R1 χ n t r p f c s) (hcl : CLN c') (hk : lxOk χ n (r + 16) t 4 (r + 19) (r + 17) p c s c' s' p' f') : R1 χ n t r p' f' c' s' := by
  have hch := CH_of_LF hk.2.2.2.2.1 h.2.2.1 (by rw [h.1.1.2.2.2.1.2.1]; decide)
  have hth := TH_of_LF hk.2.2.2.2.2.1
  exact R1_fr h hk.1 hk.2.2.1 hcl hch hth (RGt_fr hch hth h.2.2.2.1.1 (by decide) h.2.2.2.1.2.2) (by decide)
theorem pN_up {f0 f1 : Nat} {c0 c1 : cS} {rc rc' : cRes} {rt rt' : tR} (h : ∃ a c' s' k pl, rc = some (.inr (.ref a), c') ∧ rt = some (.inl none, s') ∧ thr c' a k pl ∧ tI s' 6 = k ∧ tI s' 7 = pl ∧ k ≠ 0 ∧ cNx c' ≤ cNx c1 + 10 ∧ cSl c' ≤ cSl c1 + 60) (h1 : cNx c1 + 300 * (n - f1) ≤ cNx c0 + 300 * (n - f0) + 50) (h2 : cSl c1 + 2000 * (n - f1) ≤ cSl c0 + 2000 * (n - f0) + 500)
    (hc : ∀ a c', rc = some (.inr (.ref a), c') → rc' = some (.inr (.ref a), c')) (ht : ∀ s', rt = some (.inl none, s') → tI s' 6 ≠ 0 → ∃ s'', rt' = some (.inl none, s'') ∧ tI s'' 6 = tI s' 6 ∧ tI s'' 7 = tI s' 7) : pN n f0 c0 rc' rt' := by
  obtain ⟨a9, c9, s9, k9, pl9, w1, w2, w3, w4, w5, w6, w7, w8⟩ := h
  obtain ⟨s'', g1, g2, g3⟩ := ht s9 w2 (by rw [w4]; exact w6)
  exact ⟨a9, c9, s'', k9, pl9, hc a9 c9 w1, g1, w3, by rw [g2]; exact w4, by rw [g3]; exact w5, w6, by omega, by omega⟩
/-- the reference behind a fault inside a grant -/
theorem F_grant26 (d : Nat) {s : tS} (h : tI s 6 ≠ 0) : ∃ s'', fX7_grant_26 (cT (d + 30)) s = some (.inl none, s'') ∧ tI s'' 6 = tI s 6 ∧ tI s'' 7 = tI s 7 := by
  rw [uX7_grant_26, F_fine (d + 29) h, b_I, if_pos rfl, uX7_grant_41, F_sign (d + 26) _ h, b_V, r_tpI]
  exact ⟨_, rfl, by rw [t_I_I, if_neg (by decide)], by rw [t_I_I, if_neg (by decide)]⟩
/-- the last grant is open: one more than the reference counts -/
def R1o (χ : Nat → Int32) (n t r g L p f : Nat) (c : cS) (s : tS) : Prop := R1 χ n t r p f c (tsI s 20 (Int32.ofNat (g + 1))) ∧ tI s 20 = Int32.ofNat g ∧ g < 8 ∧ cR c 1301 (lid c (r + 2) g) = .ref L ∧ (∀ k, k < g → cR c 1301 (lid c (r + 2) k) ≠ .ref L)
theorem lexEq20 (s : tS) (v : Int32) : (∀ x, x ∈ [4, 8, 9, 10, 11, 14, 15, 16] → tI s x = tI (tsI s 20 v) x) ∧ (∀ k, tA s 3 k = tA (tsI s 20 v) 3 k) := by
  refine ⟨fun x hx => ?_, fun k => rfl⟩
  rw [t_I_I, if_neg (by simp only [List.mem_cons, List.not_mem_nil, or_false] at hx; omega)]
theorem R1o_ok {g L p' f' : Nat} {z : tS} (h : R1o χ n t r g L p f c s) (hcl : CLN c') (hz : ov z s = z) (hk : lxOk χ n (r + 16) t 4 (r + 19) (r + 17) p c (tsI s 20 (Int32.ofNat (g + 1))) c' (ov z (tsI s 20 (Int32.ofNat (g + 1)))) p' f') : R1o χ n t r g L p' f' c' z := by
  obtain ⟨h1, h2, h3, h4, h5⟩ := h
  have hR := R1_ok h1 hcl hk
  have e : ov z (tsI s 20 (Int32.ofNat (g + 1))) = tsI z 20 (Int32.ofNat (g + 1)) := by rw [ov_I z s (show 20 ∉ lexI by decide), hz]
  rw [e] at hR
  have hch := CH_of_LF hk.2.2.2.2.1 h1.2.2.1 (by rw [h1.1.1.2.2.2.1.2.1]; decide)
  have hg := h1.2.2.2.1.2.2
  have c20 : cnt (tsI s 20 (Int32.ofNat (g + 1))) 20 = g + 1 := cnt_of (by rw [t_I_I, if_pos rfl]) (by omega)
  have hgl : cCl c (r + 2) = 5900 := h1.2.2.2.1.1.2.2.2.2.2.2.1
  have hl : ∀ k, lid c' (r + 2) k = lid c (r + 2) k := fun k => ch_lid hch hgl (by decide) (by decide) k
  have hc13 : ∀ k, k < g + 1 → cCl c (lid c (r + 2) k) = 13 := fun k hk => (hg.2.1.2 k (by rw [c20]; exact hk)).2
  refine ⟨hR, ?_, h3, ?_, fun k hk => ?_⟩
  · rw [← hz, ov_tI z s (by decide)]; exact h2
  · rw [hl, ch_R hch (hc13 g (by omega)) (by decide) (by decide)]; exact h4
  · rw [hl, ch_R hch (hc13 k (by omega)) (by decide) (by decide)]; exact h5 k hk
end
