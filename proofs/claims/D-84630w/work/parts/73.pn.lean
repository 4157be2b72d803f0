set_option maxRecDepth 100000
set_option maxHeartbeats 2000000
/-! D23: steps over words, at the reader's whole state -/
section
variable {χ : Nat → Int32} {n t r p f : Nat} {vo : Nat → Nat} {Op Oa Ou : Nat → Prop} {E O : Nat} {c : cS} {s : tS}
theorem RNt_f {f' : Nat} {s' : tS} (hf : f ≤ f') (h : TH [8, 9, 10, 11, 14, 15] [12] [] [13] s s') (hN : RNt O f s) : RNt O f' s' := by
  obtain ⟨Lt, h1, h2, h3, h4⟩ := hN
  refine ⟨Lt, ?_, ?_, by omega, ?_⟩
  · rw [th_cnt h (by decide)]
    intro k hk
    rw [th_ca h (by decide)]
    exact h1 k hk
  · rw [th_cnt h (by decide), th_cnt h (by decide)]; exact h2
  · rw [th_cnt h (by decide)]; exact h4
/-- what lies behind a step over a word -/
def WK (χ : Nat → Int32) (n t r p : Nat) (vo : Nat → Nat) (Op Oa Ou : Nat → Prop) (E O : Nat) (c : cS) (s : tS) (c' : cS) (s' : tS) (p' f' : Nat) : Prop := RP χ n t r p' f' vo Op Oa Ou E O c' s' ∧ p ≤ f' ∧ CH [1003, 1004, 1005, 1006] [1007] [1008] [] c c' ∧ TH [8, 9, 10, 11, 14, 15] [12] [] [13] s s' ∧ cNx c' + 2 * (n - p') ≤ cNx c + 2 * (n - p) ∧ cSl c' + 8 * (n - p') ≤ cSl c + 8 * (n - p) ∧ cSl c ≤ cSl c' ∧ p' ≤ n ∧ p ≤ n ∧ cNx c' ≤ cNx c + 2 ∧ cSl c' ≤ cSl c + 8 ∧ (∀ a, raw c a → raw c' a)
theorem WK_of {c' : cS} {s' : tS} {p' f' : Nat} (h : RP χ n t r p f vo Op Oa Ou E O c s) (hcl : CLN c') (hk : lxOk χ n (r + 16) t 4 (r + 19) (r + 17) p c s c' s' p' f') : WK χ n t r p vo Op Oa Ou E O c s c' s' p' f' := by
  obtain ⟨hL, hfi, hn, hQ, hN, hOu, hOp, hOa, hOu2⟩ := h
  obtain ⟨hL', hpf, hfi', h7, hlf, hlt, hend⟩ := hk
  have hp := hL.1.2.2.2.2.2.2.1
  have hp' := hL'.1.2.2.2.2.2.2.1
  have hch := CH_of_LF hlf hn (by rw [hL.1.2.2.2.1.2.1]; decide)
  have hth := TH_of_LF hlt
  have hsl : cSl c ≤ cSl c' := hlf.2.2.1
  refine ⟨⟨hL', hfi', hcl, RQ_fr hch hth hsl (by decide) hQ, RNt_f (Nat.le_trans hL.2.1 hpf) hth hN, ?_, ?_, ?_, ?_⟩, hpf, hch, hth, ?_, ?_, hsl, hp', hp, hlf.2.1, hlf.2.2.2.1, raw_LF hlf hn⟩
  · rw [th_cnt hth (by decide)]; exact hOu
  · intro y hy
    rw [th_ca hth (by decide), th_cnt hth (by decide)]; exact hOp y hy
  · intro k hk; rw [th_cnt hth (by decide)]; exact hOa k hk
  · intro k hk; rw [th_cnt hth (by decide)]; exact hOu2 k hk
  · by_cases q : tI s' 8 = 0
    · have := (hend q).1
      have := (lw_0 hL'.2.2.2.2.2 q)
      have := hL'.2.1
      omega
    · have := lw_lt hL'.2.2.2.2.2 q
      have := hlf.2.1
      omega
  · by_cases q : tI s' 8 = 0
    · have := (hend q).2
      have := (lw_0 hL'.2.2.2.2.2 q)
      have := hL'.2.1
      omega
    · have := lw_lt hL'.2.2.2.2.2 q
      have := hlf.2.2.2.1
      omega
theorem P_next (d e : Nat) (h : RP χ n t r p f vo Op Oa Ou E O c s) :
    lxBad (cC (d + 20) 1001 [eR (.ref (r + 16))] c) (cT (e + 20) 6 [eR (.ref 0)] s) c ∨ ∃ c' s' p' f', cC (d + 20) 1001 [eR (.ref (r + 16))] c = some (.inl none, c') ∧ cT (e + 20) 6 [eR (.ref 0)] s = some (.inl none, s') ∧ WK χ n t r p vo Op Oa Ou E O c s c' s' p' f' := by
  rcases J_next d e h.1.1 h.2.1 with hb | ⟨c', s', p', f', h1, h2, h3⟩
  · left; exact hb
  · right; exact ⟨c', s', p', f', h1, h2, WK_of h (cC_cln h1 h.2.2.1) h3⟩
theorem P_sign (d e : Nat) {x y : Int32} (h : RP χ n t r p f vo Op Oa Ou E O c s) (hxy : (cI c 1004 (r + 16) = 5 ∧ cI c 1006 (r + 16) = x) = (tI s 8 = 5 ∧ tI s 11 = y)) :
    lxBad (cC (d + 22) 1012 [eR (.ref (r + 16)), eI x] c) (cT (e + 21) 26 [eR (.ref 0), eI y] s) c ∨ (tI s 8 = 5 ∧ tI s 11 = y) ∧ ∃ c' s' p' f', cC (d + 22) 1012 [eR (.ref (r + 16)), eI x] c = some (.inl none, c') ∧ cT (e + 21) 26 [eR (.ref 0), eI y] s = some (.inl none, s') ∧ WK χ n t r p vo Op Oa Ou E O c s c' s' p' f' := by
  rcases J_sign d e h.1 h.2.1 hxy with hb | ⟨q, c', s', p', f', h1, h2, h3⟩
  · left; exact hb
  · right; exact ⟨q, c', s', p', f', h1, h2, WK_of h (cC_cln h1 h.2.2.1) h3⟩
theorem P_key (d e : Nat) (x : Int32) (h : RP χ n t r p f vo Op Oa Ou E O c s) :
    lxBad (cC (d + 22) 1016 [eR (.ref (r + 16)), eI x] c) (cT (e + 21) 31 [eR (.ref 0), eI x] s) c ∨ (tI s 8 = 2 ∧ tI s 11 = x) ∧ ∃ c' s' p' f', cC (d + 22) 1016 [eR (.ref (r + 16)), eI x] c = some (.inl none, c') ∧ cT (e + 21) 31 [eR (.ref 0), eI x] s = some (.inl none, s') ∧ WK χ n t r p vo Op Oa Ou E O c s c' s' p' f' := by
  rcases J_key d e x h.1 h.2.1 with hb | ⟨q, c', s', p', f', h1, h2, h3⟩
  · left; exact hb
  · right; exact ⟨q, c', s', p', f', h1, h2, WK_of h (cC_cln h1 h.2.2.1) h3⟩
theorem WK_ST {c' : cS} {s' : tS} {p' f' : Nat} (h0 : RP χ n t r p f vo Op Oa Ou E O c s) (h : WK χ n t r p vo Op Oa Ou E O c s c' s' p' f') : ST n r f c s f' c' s' ∧ (tI s 8 ≠ 0 → f < f' ∧ cNx c' + 300 * (n - f') + 298 ≤ cNx c + 300 * (n - f) ∧ cSl c' + 2000 * (n - f') + 1992 ≤ cSl c + 2000 * (n - f)) := by
  obtain ⟨hR, h1, h2, h3, h4, h5, h6, h7, h8, h9, h10, h11⟩ := h
  have hS := h0.2.2.2.1.1
  have hf' := hR.1.2.1
  have hf := h0.1.2.1
  have hw := h0.1.2.2.2.2.2
  refine ⟨⟨KC_of h2 hS h6 (by decide), KT_of h3 (by decide), fun y _ z _ => th_A h3 (by simp) y, ?_, ?_, by omega, h11⟩, fun q => ?_⟩
  · by_cases q : tI s 8 = 0
    · have := lw_0 hw q
      omega
    · have := lw_lt hw q
      omega
  · by_cases q : tI s 8 = 0
    · have := lw_0 hw q
      omega
    · have := lw_lt hw q
      omega
  · have := lw_lt hw q
    omega
theorem ST_refl (n r p : Nat) (c : cS) (s : tS) : ST n r p c s p c s := ⟨KC_refl r c, KT_refl s, fun _ _ _ _ => rfl, Nat.le_refl _, Nat.le_refl _, Nat.le_refl _, fun _ q => q⟩
theorem ST_trans {p1 p2 p3 : Nat} {c1 c2 c3 : cS} {s1 s2 s3 : tS} (hl : (cLs c1 (r + 8)).length ≤ (cLs c2 (r + 8)).length) (h : ST n r p1 c1 s1 p2 c2 s2) (k : ST n r p2 c2 s2 p3 c3 s3) : ST n r p1 c1 s1 p3 c3 s3 := by
  obtain ⟨h1, h2, h3, h4, h5, h6, h7⟩ := h
  obtain ⟨k1, k2, k3, k4, k5, k6, k7⟩ := k
  refine ⟨KC_trans hl h1 k1, KT_trans h2 k2, fun y hy z hz => ?_, by omega, by omega, by omega, fun a q => k7 a (h7 a q)⟩
  rw [k3 y (Nat.lt_of_lt_of_le hy (h2.1 65 (by simp))) z hz, h3 y hy z hz]
end
