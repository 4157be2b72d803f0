set_option maxRecDepth 100000
set_option maxHeartbeats 4000000
/-! D111: all grants -/
section
variable {χ : Nat → Int32} {n t r p f : Nat} {c c' : cS} {s s' : tS}
theorem F_readModule (d : Nat) {s : tS} (h : tI s 6 ≠ 0) : cT (d + 31) 30 [eR (.ref 0)] s = some (.inl none, s) := by
  rw [kX7_readModule, uX7_readModule, F_key (d + 26) _ h, b_V, F_isName (d + 27) h, b_I, if_pos rfl]
theorem F_readAll7 (d : Nat) {s : tS} (h : tI s 6 ≠ 0) : fX7_readAll_7 (cT (d + 31)) s = some (.inl none, s) := by
  rw [uX7_readAll_7, F_readModule d h, b_V, F_fine (d + 30) h, b_I, if_pos rfl]
theorem F_readAll (d : Nat) {s : tS} (h : tI s 6 ≠ 0) : fX7_readAll (cT (d + 31)) s = some (.inl none, s) := by
  rw [uX7_readAll, F_isKey (d + 29) _ h, b_I, if_pos rfl, F_readAll7 d h]
theorem gr_all (dc dt : Nat) {c0 : cS} {f0 : Nat} : ∀ (m p f : Nat) (c : cS) (s : tS), n - f ≤ m → R1 χ n t r p f c s → cNx c + 300 * (n - f) ≤ cNx c0 + 300 * (n - f0) → cSl c + 2000 * (n - f) ≤ cSl c0 + 2000 * (n - f0) →
    pN n f0 c0 (fX8_read_3 (cC (dc + 31)) (.ref r) c) (fX7_readAll (cT (dt + 31)) s) ∨ ∃ c' s' p' f', fX8_read_3 (cC (dc + 31)) (.ref r) c = (bV (cC (dc + 31) 803 [eR (.ref r), eI (bi (decide (tI s' 8 = 2 ∧ tI s' 11 = 1))), eI 1] c') fun h7 => fX8_read_18 (cC (dc + 31)) (.ref r) h7) ∧ fX7_readAll (cT (dt + 31)) s = fX7_readAll_7 (cT (dt + 31)) s' ∧ R1 χ n t r p' f' c' s' ∧ f ≤ f' ∧ cNx c' + 300 * (n - f') ≤ cNx c0 + 300 * (n - f0) ∧ cSl c' + 2000 * (n - f') ≤ cSl c0 + 2000 * (n - f0) := by
  intro m
  have endc : ∀ (p f : Nat) (c : cS) (s : tS), R1 χ n t r p f c s → ¬ (tI s 8 = 2 ∧ tI s 11 = 0) → fX8_read_3 (cC (dc + 31)) (.ref r) c = (bV (cC (dc + 31) 803 [eR (.ref r), eI (bi (decide (tI s 8 = 2 ∧ tI s 11 = 1))), eI 1] c) fun h7 => fX8_read_18 (cC (dc + 31)) (.ref r) h7) ∧ fX7_readAll (cT (dt + 31)) s = fX7_readAll_7 (cT (dt + 31)) s := fun p f c s h hq => by
    obtain ⟨hL, hfi, hn, ⟨hS, hC, hG⟩, hzz, hll⟩ := id h
    have hw := hL.1.1.1
    have hk0 := lx_key hL 0
    have hk1 := lx_key hL 1
    constructor
    · rw [uX8_read_3, r_cgR, if_pos hS.1, hS.2.1, c_isKey (dc + 30) 0 hw, b_I]
      simp only [hk0]
      rw [decide_eq_false hq, bi_f, if_pos rfl, r_cgR, if_pos hS.1, hS.2.1, c_isKey (dc + 30) 1 hw, b_I]
      simp only [hk1]
    · rw [uX7_readAll, t_isKey (dt + 29), decide_eq_false (fun q => hq q.2), bi_f, b_I, if_pos rfl]
  induction m with
  | zero =>
    intro p f c s hm h k1 k2
    have hL := h.1
    have hq : ¬ (tI s 8 = 2 ∧ tI s 11 = 0) := fun q => by
      have := lw_lt hL.2.2.2.2.2 (by rw [q.1]; decide)
      have := hL.2.1
      have := hL.1.2.2.2.2.2.2.1
      omega
    right
    exact ⟨c, s, p, f, (endc p f c s h hq).1, (endc p f c s h hq).2, h, Nat.le_refl _, k1, k2⟩
  | succ m ih =>
    intro p f c s hm h k1 k2
    by_cases hq : tI s 8 = 2 ∧ tI s 11 = 0
    · obtain ⟨hL, hfi, hn, ⟨hS, hC, hG⟩, hzz, hll⟩ := id h
      have hw := hL.1.1.1
      have hk0 := lx_key hL 0
      rw [uX8_read_3, r_cgR, if_pos hS.1, hS.2.1, c_isKey (dc + 30) 0 hw, b_I, uX7_readAll, t_isKey (dt + 29)]
      simp only [hk0]
      rw [decide_eq_true hq, decide_eq_true ⟨hfi, hq⟩, bi_t, b_I, if_neg n10, if_neg n10]
      rcases gr_grant dc dt h (by rw [hq.1]; decide) k1 k2 with hb | ⟨c1, s1, p1, f1, e1, e2, h1, m1, m2, m3⟩
      · left
        obtain ⟨a9, c9, s9, k9, pl9, v1, v2, v3, v4, v5, v6, v7, v8⟩ := hb
        exact ⟨a9, c9, s9, k9, pl9, by rw [v1]; rfl, by rw [v2, b_V, F_readAll dt (by rw [v4]; exact v6)], v3, v4, v5, v6, v7, v8⟩
      · have hL1 := h1.1
        have := hL1.2.1
        have := hL1.1.2.2.2.2.2.2.1
        rw [e1, e2, b_V, b_V]
        rcases ih p1 f1 c1 s1 (by omega) h1 m2 m3 with hb | ⟨c2, s2, p2, f2, g1, g2, g3, g4, g5, g6⟩
        · left; exact hb
        · right; exact ⟨c2, s2, p2, f2, g1, g2, g3, by omega, g5, g6⟩
    · right
      exact ⟨c, s, p, f, (endc p f c s h hq).1, (endc p f c s h hq).2, h, Nat.le_refl _, k1, k2⟩
end
/-! between modules, between methods -/
def RD (r : Nat) (vo : Nat → Nat) (E x : Nat) (c : cS) (s : tS) : Prop := RSt r c ∧ RCt r c s ∧ RGt r c s ∧ RLt r c s ∧ RMt r x c s ∧ RUt r c s ∧ RVt r vo c s ∧ RFt r (fun _ => False) c s ∧ RAt r (fun _ => False) c s ∧ RBt r (fun _ => False) E c s
def RG (χ : Nat → Int32) (n t r p f : Nat) (vo : Nat → Nat) (E x : Nat) (c : cS) (s : tS) : Prop := LX χ n (r + 16) t 4 (r + 19) (r + 17) p f c s ∧ tI s 6 = 0 ∧ CLN c ∧ RD r vo E x c s ∧ RNt 0 f s ∧ tI s 63 = 0 ∧ tI s 56 = 0 ∧ cLs c (r + 6) = []
section
variable {χ : Nat → Int32} {n t r p f : Nat} {vo : Nat → Nat} {E x : Nat} {c c' : cS} {s s' : tS}
theorem RD_fr {XI XL XR XC YI YL YA YB : List Nat} (h : CH XI XL XR XC c c') (ht : TH YI YL YA YB s s') (hsl : cSl c ≤ cSl c') (hd : (dj qI XI && dj qL XL && dj qR XR && dj qC XC && dj qYI YI && dj qYA YA && dj qYB YB) = true) (hQ : RD r vo E x c s) : RD r vo E x c' s' := by
  have hd0 := hd
  simp only [Bool.and_eq_true] at hd
  obtain ⟨⟨⟨⟨⟨⟨d1, d2⟩, d3⟩, d4⟩, d5⟩, d6⟩, d7⟩ := hd
  obtain ⟨hS, hC, hG, hL, hM, hU, hV, hF, hA, hB⟩ := hQ
  refine ⟨RSt_fr h (dj_sub (by decide) d3) hS, RCt_fr h ht hS ?_ hC, RGt_fr h ht hS ?_ hG, RLt_fr h ht hS ?_ hL, RMt_fr h ht hS ?_ (dj_not d5 (by decide)) hM, RUt_fr h ht hS ?_ (dj_not d5 (by decide)) hU, RVt_fr h ht hS hU ?_ hV, RFt_fr h ht hS hU ?_ hF, RAt_fr h ht hS ?_ hA, RBt_fr h ht hS hU hV hsl hd0 hB⟩
  · simp only [Bool.and_eq_true]
    exact ⟨⟨⟨⟨dj_sub (by decide) d1, dj_sub (by decide) d4⟩, dj_sub (by decide) d5⟩, dj_sub (by decide) d6⟩, dj_sub (by decide) d7⟩
  · simp only [Bool.and_eq_true]
    exact ⟨⟨⟨⟨⟨⟨dj_sub (by decide) d1, dj_sub (by decide) d3⟩, dj_sub (by decide) d2⟩, dj_sub (by decide) d4⟩, dj_sub (by decide) d5⟩, dj_sub (by decide) d6⟩, dj_sub (by decide) d7⟩
  · simp only [Bool.and_eq_true]
    exact ⟨⟨⟨⟨⟨⟨dj_sub (by decide) d1, dj_sub (by decide) d3⟩, dj_sub (by decide) d2⟩, dj_sub (by decide) d4⟩, dj_sub (by decide) d5⟩, dj_sub (by decide) d6⟩, dj_sub (by decide) d7⟩
  · simp only [Bool.and_eq_true]
    exact ⟨⟨⟨⟨⟨⟨dj_sub (by decide) d1, dj_sub (by decide) d2⟩, dj_sub (by decide) d3⟩, dj_sub (by decide) d4⟩, dj_sub (by decide) d5⟩, dj_sub (by decide) d6⟩, dj_sub (by decide) d7⟩
  · simp only [Bool.and_eq_true]
    exact ⟨⟨⟨⟨⟨⟨dj_sub (by decide) d1, dj_sub (by decide) d2⟩, dj_sub (by decide) d3⟩, dj_sub (by decide) d4⟩, dj_sub (by decide) d5⟩, dj_sub (by decide) d6⟩, dj_sub (by decide) d7⟩
  · simp only [Bool.and_eq_true]
    exact ⟨⟨⟨⟨dj_sub (by decide) d1, dj_sub (by decide) d3⟩, dj_sub (by decide) d4⟩, dj_sub (by decide) d5⟩, dj_sub (by decide) d6⟩
  · simp only [Bool.and_eq_true]
    exact ⟨⟨⟨⟨⟨⟨dj_sub (by decide) d1, dj_sub (by decide) d2⟩, dj_sub (by decide) d3⟩, dj_sub (by decide) d4⟩, dj_sub (by decide) d5⟩, dj_sub (by decide) d6⟩, dj_sub (by decide) d7⟩
  · simp only [Bool.and_eq_true]
    exact ⟨⟨⟨⟨⟨⟨dj_sub (by decide) d1, dj_sub (by decide) d2⟩, dj_sub (by decide) d3⟩, dj_sub (by decide) d4⟩, dj_sub (by decide) d5⟩, dj_sub (by decide) d6⟩, dj_sub (by decide) d7⟩
theorem RG_ok {p' f' : Nat} (h : RG χ n t r p f vo E x c s) (hcl : CLN c') (hk : lxOk χ n (r + 16) t 4 (r + 19) (r + 17) p c s c' s' p' f') : RG χ n t r p' f' vo E x c' s' := by
  obtain ⟨hL, hfi, hn, hD, hN, h63, h56, h6⟩ := h
  have hch := CH_of_LF hk.2.2.2.2.1 hn (by rw [hL.1.2.2.2.1.2.1]; decide)
  have hth := TH_of_LF hk.2.2.2.2.2.1
  obtain ⟨y1, y2, y3, y4, y5, y6, y7, y8⟩ := LXR hL hk
  have hdl : cCl c (r + 6) = 5902 := hD.1.2.2.2.2.2.2.2.2.1
  exact ⟨hk.1, hk.2.2.1, hcl, RD_fr hch hth y7 (by decide) hD, RNt_f y1 hth hN, (th_I hth (by decide)).trans h63, (th_I hth (by decide)).trans h56, by rw [ch_Ls hch hdl (by decide) (by decide)]; exact h6⟩
theorem RG_of1 (h : R1 χ n t r p f c s) (h62 : 0 ≤ cnt s 62) : RG χ n t r p f (fun _ => 0) 0 0 c s := by
  obtain ⟨hL, hfi, hn, ⟨hS, hC, hG⟩, hz, hl⟩ := h
  have z0 : ∀ x, x ∈ [22, 25, 35, 48, 50, 56, 63, 65] → cnt s x = 0 := fun x hx => by unfold cnt; rw [hz x hx]; rfl
  have k0 : ∀ x, x ∈ [22, 25, 35, 48, 50, 56, 63, 65] → ∀ b, cok s x b := fun x hx b => ⟨by rw [z0 x hx, hz x hx]; rfl, by rw [z0 x hx]; exact Nat.zero_le _⟩
  have l0 : ∀ L, L ∈ [4, 6, 8, 9, 11, 15] → ∀ cl, lsr c (r + L) 0 cl := fun L hx cl => ⟨by rw [hl L hx]; rfl, fun k hk => absurd hk (Nat.not_lt_zero _)⟩
  have n65 : cnt s 65 = 0 := z0 65 (by simp)
  refine ⟨hL, hfi, hn, ⟨hS, hC, hG, ⟨k0 22 (by simp) _, by rw [z0 22 (by simp)]; exact l0 9 (by simp) _, fun k hk => ?_⟩, ⟨k0 25 (by simp) _, by rw [z0 25 (by simp)]; exact l0 4 (by simp) _, fun k hk => ?_⟩, ⟨k0 35 (by simp) _, by rw [z0 35 (by simp)]; exact l0 8 (by simp) _, fun k hk => ?_⟩, ⟨k0 50 (by simp) _, fun v hv => ?_, fun v v' hv => ?_, fun k hk => ?_⟩, ⟨fun y hy => ?_, fun k hk => ?_⟩, ⟨k0 48 (by simp) _, by rw [z0 48 (by simp), hl 11 (by simp)]; rfl, fun k hk => ?_⟩, ⟨fun _ => 0, ?_, fun k hk => ?_⟩⟩, ⟨0, fun k hk => ?_, ?_, by omega, by omega⟩, hz 63 (by simp), hz 56 (by simp), hl 6 (by simp)⟩
  · rw [z0 22 (by simp)] at hk; omega
  · rw [z0 25 (by simp)] at hk; omega
  · rw [z0 35 (by simp)] at hk; omega
  · rw [z0 50 (by simp)] at hv; omega
  · rw [z0 50 (by simp)] at hv; omega
  · rw [z0 35 (by simp)] at hk; omega
  · omega
  · rw [z0 35 (by simp)] at hk; omega
  · rw [z0 48 (by simp)] at hk; omega
  · rw [z0 35 (by simp)]; show 0 + 0 ≤ _; omega
  · rw [z0 35 (by simp)] at hk; omega
  · rw [z0 35 (by simp)] at hk; omega
  · rw [z0 50 (by simp)]; omega
end
