set_option maxRecDepth 100000
set_option maxHeartbeats 1000000
/-! D11: both go to the next word: the join -/
theorem and255 (x : Int32) : ∃ k, k < 256 ∧ x &&& 255 = Int32.ofNat k := by
  refine ⟨(x &&& 255).toBitVec.toNat, ?_, ?_⟩
  · rw [Int32.toBitVec_and, BitVec.toNat_and]
    have : ((255 : Int32).toBitVec).toNat = 255 := rfl
    rw [this]
    have := Nat.and_le_right (n := x.toBitVec.toNat) (m := 255)
    omega
  · rw [Int32.ofNat_bitVecToNat, Int32.ofBitVec_toBitVec]
def LFc0 (st : Nat) (c c' : cS) : Prop := cNx c' = cNx c ∧ cSl c' = cSl c ∧ (∀ x a, x ∉ [1003, 1004, 1005, 1006] → cI c' x a = cI c x a) ∧ (∀ x a, x ≠ 1007 → cL c' x a = cL c x a) ∧ (∀ x a, cR c' x a = cR c x a) ∧ cAI c' = cAI c ∧ cAR c' = cAR c ∧ cLs c' = cLs c ∧ cCap c' = cCap c ∧ cLen c' = cLen c ∧ cCl c' = cCl c ∧ (∀ a j, a ≠ st → cAL c' a j = cAL c a j)
theorem LFc0_refl (st : Nat) (c : cS) : LFc0 st c c := ⟨rfl, rfl, fun _ _ _ => rfl, fun _ _ _ => rfl, fun _ _ => rfl, rfl, rfl, rfl, rfl, rfl, rfl, fun _ _ _ => rfl⟩
theorem LFc0_I {st : Nat} {c c' : cS} {x a : Nat} {v : Int32} (hx : x ∈ [1003, 1004, 1005, 1006]) (h : LFc0 st c c') : LFc0 st c (csI c' x a v) := by
  obtain ⟨h1, h2, h3, h4, h5, h6, h7, h8, h9, h10, h11, h12⟩ := h
  refine ⟨h1, h2, ?_, h4, h5, h6, h7, h8, h9, h10, h11, h12⟩
  intro y b hy
  rw [g_I_I, if_neg (by rintro ⟨rfl, _⟩; exact hy hx), h3 y b hy]
theorem LFc0_L {st : Nat} {c c' : cS} {a : Nat} {v : Int64} (h : LFc0 st c c') : LFc0 st c (csL c' 1007 a v) := by
  obtain ⟨h1, h2, h3, h4, h5, h6, h7, h8, h9, h10, h11, h12⟩ := h
  refine ⟨h1, h2, h3, ?_, h5, h6, h7, h8, h9, h10, h11, h12⟩
  intro y b hy
  rw [g_L_L, if_neg (fun q => hy q.1), h4 y b hy]
theorem LFc0_f {st : Nat} {c c' : cS} {F : Nat → Int64} (h : LFc0 st c c') : LFc0 st c (cfAL c' st F) := by
  obtain ⟨h1, h2, h3, h4, h5, h6, h7, h8, h9, h10, h11, h12⟩ := h
  refine ⟨h1, h2, h3, h4, h5, h6, h7, h8, h9, h10, h11, ?_⟩
  intro b j hb
  rw [g_AL_fAL, if_neg hb, h12 b j hb]
theorem LFc0_k {st w : Nat} {c c' : cS} {o : Option Nat} (h : LFc0 st c c') : LFc0 st c (kwH c' w o) := by
  cases o with
  | none => exact h
  | some j => exact LFc0_I (by simp) (LFc0_I (by simp) h)
theorem LFc_of0 {st : Nat} {c c' : cS} (h : LFc0 st c c') : LFc st c c' := by
  obtain ⟨h1, h2, h3, h4, h5, h6, h7, h8, h9, h10, h11, h12⟩ := h
  exact ⟨by omega, by omega, by omega, by omega, fun x a hx => h3 x a (by simp only [List.mem_cons, List.not_mem_nil, or_false, not_or] at hx ⊢; omega), fun a _ => h3 1201 a (by decide), h4, fun x a _ _ => h5 x a, fun a _ => h5 1200 a, h6, h7, h8, h9, fun a _ => ⟨by rw [h10], by rw [h11], fun q j => h12 a j q⟩, fun a q1 q2 => by omega⟩
theorem LFc_pat {st w k0 : Nat} {c c' : cS} {tl : Int32} {G : Nat → Int64} (hk : k0 ≤ 5) (h : LFc0 st c c') : LFc st c (patH c' w k0 tl G) := by
  obtain ⟨h1, h2, h3, h4, h5, h6, h7, h8, h9, h10, h11, h12⟩ := h
  unfold patH
  refine ⟨?_, ?_, ?_, ?_, ?_, ?_, ?_, ?_, ?_, h6, h7, h8, h9, ?_, ?_⟩
  · simp only [gC]; omega
  · simp only [gC]; omega
  · simp only [gC]; omega
  · simp only [gC]; omega
  · intro x a hx
    simp only [List.mem_cons, List.not_mem_nil, or_false, not_or] at hx
    simp only [gC]
    rw [if_neg (by omega)]
    exact h3 x a (by simp only [List.mem_cons, List.not_mem_nil, or_false, not_or]; omega)
  · intro a ha
    simp only [gC]
    rw [if_neg (by omega)]
    exact h3 1201 a (by decide)
  · exact h4
  · intro x a hx hy
    simp only [gC]
    rw [if_neg (by omega), if_neg (by omega)]
    exact h5 x a
  · intro a ha
    simp only [gC]
    rw [if_neg (by omega), if_neg (by omega)]
    exact h5 1200 a
  · intro a ha
    refine ⟨?_, ?_, ?_⟩
    · simp only [gC]
      rw [if_neg (by omega), h10]
    · simp only [gC]
      rw [if_neg (by omega), if_neg (by omega), h11]
    · intro q j
      simp only [gC]
      rw [if_neg (by omega)]
      exact h12 a j q
  · intro a q1 q2
    simp only [gC] at q2 ⊢
    by_cases e : a = cNx c' + 1
    · right; rw [if_pos e]
    · left; rw [if_neg e, if_pos (by omega)]
theorem LFt_I {s s' : tS} {x : Nat} {v : Int32} (hx : x ∈ [8, 9, 10, 11, 14, 15]) (h : LFt s s') : LFt s (tsI s' x v) := by
  obtain ⟨h1, h2, h3, h4⟩ := h
  refine ⟨?_, h2, h3, h4⟩
  intro y hy
  rw [t_I_I, if_neg (by rintro rfl; exact hy hx), h1 y hy]
theorem LFt_L {s s' : tS} {v : Int64} (h : LFt s s') : LFt s (tsL s' 12 v) := by
  obtain ⟨h1, h2, h3, h4⟩ := h
  refine ⟨h1, ?_, h3, h4⟩
  intro y hy
  rw [t_L_L, if_neg hy, h2 y hy]
theorem LFt_f {s s' : tS} {F : Nat → Int64} (h : LFt s s') : LFt s (tfB s' 13 F) := by
  obtain ⟨h1, h2, h3, h4⟩ := h
  refine ⟨h1, h2, h3, ?_⟩
  intro y j hy
  rw [tfB_B, if_neg hy, h4 y j hy]
theorem LFt_refl (s : tS) : LFt s s := ⟨fun _ _ => rfl, fun _ _ => rfl, rfl, fun _ _ _ => rfl⟩
theorem LXb_of {χ : Nat → Int32} {n w t m ks st p p' : Nat} {c c' : cS} {s s' : tS} (h : LXb χ n w t m ks st p c s) (hc : LFc st c c') (ht : LFt s s') (hp : p' ≤ n) (h1 : cI c' 1003 w = Int32.ofNat p') (h2 : tI s' 10 = Int32.ofNat p') : LXb χ n w t m ks st p' c' s' := by
  obtain ⟨⟨a1, a2, a3, a4, a5, a6, a7, a8⟩, ⟨b1, b2, b3, b4⟩, ⟨k1, k2, k3, k4⟩, ⟨s1, s2, s3⟩, ⟨l1, l2, l3, l4⟩, ⟨m1, m2, m3⟩, _⟩ := h
  obtain ⟨c1, c2, c3, c4, c5, c6, c7, c8, c9, c10, c11, c12, c13, c14, c15⟩ := hc
  obtain ⟨t1, t2, t3, t4⟩ := ht
  have hks : ks ≠ st := by
    intro e; rw [e, s2] at k2; cases k2
  refine ⟨⟨?_, ?_, ?_, ?_, ?_, a6, ?_, a8⟩, ⟨?_, b2, ?_, b4⟩, ⟨?_, ?_, ?_, ?_⟩, ⟨?_, ?_, ?_⟩, ⟨by omega, by omega, by omega, by omega⟩, ⟨m1, ?_, ?_⟩, hp, h1, h2⟩
  · rw [(c14 w l1).2.1]; exact a1
  · rw [c5 _ _ (by decide)]; exact a2
  · rw [c8 _ _ (by decide) (by decide)]; exact a3
  · rw [(c14 t l3).2.1]; exact a4
  · rw [(c14 t l3).1]; exact a5
  · intro k hk; rw [c10]; exact a7 k hk
  · rw [t1 _ (by decide)]; exact b1
  · intro k hk; rw [t3]; exact b3 k hk
  · rw [c8 _ _ (by decide) (by decide)]; exact k1
  · rw [(c14 ks l4).2.1]; exact k2
  · rw [(c14 ks l4).1]; exact k3
  · intro k hk; rw [(c14 ks l4).2.2 hks]; exact k4 k hk
  · rw [c8 _ _ (by decide) (by decide)]; exact s1
  · rw [(c14 st l2).2.1]; exact s2
  · rw [(c14 st l2).1]; exact s3
  · rw [c5 _ _ (by decide)]; exact m2
  · rw [t1 _ (by decide)]; exact m3
theorem xP_gs {χ : Nat → Int32} {n m : Nat} (h8 : ∀ k, n ≤ k → χ k = -1) : ∀ (g p : Nat) (b : Bool) (l : List (List Int32)), (b = true → gs l) → (xP χ n m g p b l).2.1 = true → gs (xP χ n m g p b l).2.2 := by
  intro g
  induction g with
  | zero => intro p b l hl hb; exact hl hb
  | succ g ih =>
    intro p b l hl hb
    unfold xP at hb ⊢
    split
    · rename_i q
      rw [if_pos q] at hb
      refine ih _ _ _ ?_ hb
      intro hb2
      rw [Bool.and_eq_true, Bool.and_eq_true, decide_eq_true_eq, decide_eq_true_eq] at hb2
      have hn : 0 < n := by
        apply Nat.lt_of_not_le
        intro r
        have := q.1
        rw [h8 p (by omega)] at this
        exact absurd this (by decide)
      obtain ⟨w1, w2, w3⟩ := xW_lt h8 q.2 hn
      intro x hx
      rw [List.mem_append] at hx
      rcases hx with hx | hx
      · exact hl hb2.1.1 x hx
      · rw [List.mem_singleton] at hx
        rw [hx]
        refine ⟨⟨by rw [xSg_len]; omega, ?_⟩, by rw [xSg_len]; omega⟩
        intro y hy
        unfold xSg at hy
        rw [List.mem_map] at hy
        obtain ⟨i, hi, rfl⟩ := hy
        rw [List.mem_range] at hi
        exact xW_all n (p + 1) (p + 1 + i) (by omega) (by omega)
    · rename_i q
      rw [if_neg q] at hb
      exact hl hb
theorem xP_b {χ : Nat → Int32} {n m : Nat} (h8 : ∀ k, n ≤ k → χ k = -1) : ∀ (g p : Nat) (b : Bool) (l : List (List Int32)), p ≤ n → l.length ≤ p → (xP χ n m g p b l).2.2.length ≤ (xP χ n m g p b l).1 ∧ (xP χ n m g p b l).1 ≤ n ∧ p ≤ (xP χ n m g p b l).1 ∧ ((xP χ n m g p b l).2.2 ≠ l → p < (xP χ n m g p b l).1) := by
  intro g
  induction g with
  | zero => intro p b l hp hl; exact ⟨hl, hp, Nat.le_refl _, fun h => absurd rfl h⟩
  | succ g ih =>
    intro p b l hp hl
    unfold xP
    split
    · rename_i q
      have hn : 0 < n := by
        apply Nat.lt_of_not_le
        intro r
        have := q.1
        rw [h8 p (by omega)] at this
        exact absurd this (by decide)
      obtain ⟨w1, w2, w3⟩ := xW_lt h8 q.2 hn
      have := ih (xW χ n (p + 1)) (b && decide (xW χ n (p + 1) - (p + 1) ≤ 6) && decide (l.length < m)) (l ++ [xSg χ (p + 1) (xW χ n (p + 1))]) w2 (by simp; omega)
      exact ⟨this.1, this.2.1, by omega, fun _ => by omega⟩
    · exact ⟨hl, hp, Nat.le_refl _, fun h => absurd rfl h⟩
theorem fH_6 {s : tS} {k pl : Int32} (h : tI s 6 = 0) : tI (fH s k pl) 6 = k ∧ tI (fH s k pl) 7 = pl := by
  unfold fH
  rw [if_pos h]
  constructor <;> simp [gT]
/-- what a lexer's fault is on both sides -/
def lxBad (rc : cRes) (rt : tR) (c : cS) : Prop := ∃ a c' s' k pl, rc = some (.inr (.ref a), c') ∧ rt = some (.inl none, s') ∧ thr c' a k pl ∧ tI s' 6 = k ∧ tI s' 7 = pl ∧ k ≠ 0 ∧ cNx c' ≤ cNx c + 3 ∧ cSl c' ≤ cSl c + 16
theorem lx_next {χ : Nat → Int32} {n w t m ks st p : Nat} {c : cS} {s : tS} (d e : Nat) (hL : LXb χ n w t m ks st p c s) (hfi : tI s 6 = 0) :
    lxBad (cC (d + 20) 1001 [eR (.ref w)] c) (cT (e + 20) 6 [eR (.ref 0)] s) c ∨
    ∃ c' s' p' f', cC (d + 20) 1001 [eR (.ref w)] c = some (.inl none, c') ∧ cT (e + 20) 6 [eR (.ref 0)] s = some (.inl none, s') ∧ LX χ n w t m ks st p' f' c' s' ∧ p ≤ f' ∧ tI s' 6 = 0 ∧ tI s' 7 = tI s 7 ∧ LFc st c c' ∧ LFt s s' ∧ (tI s' 8 = 0 → cNx c' = cNx c ∧ cSl c' = cSl c) := by
  have hL0 := hL
  obtain ⟨hW, hX, hK, ⟨s1, s2, s3⟩, ⟨l1, l2, l3, l4⟩, ⟨m1, m2, m3⟩, ⟨p1, p2, p3⟩⟩ := hL
  have h8 := hX.2.2.2
  have hn3 := hX.2.1
  have hcl := hW.1
  generalize hf : xSk χ n n false p = f
  have hc := c_next0 (χ := χ) d hW p1 p2 hf.symm
  have ht := t_next0 (χ := χ) e hX hfi p1 p3 hf.symm
  have hfl := xSk_le (χ := χ) n false p p1
  rw [hf] at hfl
  have hWc : WX χ n w t (c1H c w f) := WX_I (by decide) (WX_I (by decide) hW)
  have hXt : TX χ n (t1H s f) := TX_I (by decide) (TX_I (by decide) hX)
  have e1 : cI (c1H c w f) 1003 w = Int32.ofNat f := by simp [c1H, gC]
  have e2 : cI (c1H c w f) 1005 w = Int32.ofNat f := by simp [c1H, gC]
  have e3 : tI (t1H s f) 10 = Int32.ofNat f := by simp [t1H, gT]
  have e4 : tI (t1H s f) 9 = Int32.ofNat f := by simp [t1H, gT]
  have e5 : cNx (c1H c w f) = cNx c := rfl
  have e6 : cSl (c1H c w f) = cSl c := rfl
  have e7 : tI (t1H s f) 6 = 0 := by simp [t1H, gT, hfi]
  have f0 : LFc0 st c (c1H c w f) := LFc0_I (by simp) (LFc0_I (by simp) (LFc0_refl st c))
  have g0 : LFt s (t1H s f) := LFt_I (by simp) (LFt_I (by simp) (LFt_refl s))
  by_cases q1 : χ f = -1
  · right
    rw [if_pos q1] at hc ht
    have hfn : f = n := by
      apply Nat.le_antisymm hfl.2
      apply Nat.le_of_not_lt
      intro r
      have := hW.2.2.2.2.2.2.1 f r
      rw [q1] at this
      obtain ⟨k, hk, ek⟩ := and255 (cAI c t f)
      rw [ek] at this
      have := congrArg Int32.toInt this
      rw [z_int (by omega)] at this
      have e9 : (-1 : Int32).toInt = -1 := rfl
      omega
    have a1 := LFc_of0 (LFc0_I (x := 1004) (a := w) (v := 0) (by simp) f0)
    have a2 := LFt_I (x := 8) (v := 0) (by simp) g0
    refine ⟨_, _, f, f, hc, ht, ⟨LXb_of hL0 a1 a2 (by omega) (by simp [gC, e1]) (by simp [gT, e3]), Nat.le_refl _, by simp [gC, e2], by simp [gT, e4], by simp [gC, gT], Or.inl ⟨by simp [gT], hfn, hfn⟩⟩, hfl.1, by simp [gT, e7], by simp [gT, t1H], a1, a2, fun _ => ⟨rfl, rfl⟩⟩
  · rw [if_neg q1] at hc ht
    have hfn : f < n := by
      apply Nat.lt_of_not_le
      intro r
      exact q1 (h8 f r)
    by_cases q2 : aL (χ f) = true
    · rw [if_pos q2] at hc ht
      have w0 := c_word (χ := χ) (ks := ks) (d + 4) hWc hK (by rw [e5]; exact l1) (by omega) e1 e2 (p := xW χ n f) rfl
      have w1 := t_word (χ := χ) (e + 6) hXt (by omega) e3 e4 (p := xW χ n f) rfl
      have haf : aA (χ f) = true := by unfold aA; rw [q2]; rfl
      obtain ⟨x1, x2, x3⟩ := xW_lt h8 haf (by omega)
      generalize hq : xW χ n f = q at w0 w1 x1 x2 x3
      by_cases q3 : 8 < q - f
      · rw [if_pos q3] at w0 w1
        rw [bV_idx w0] at hc
        rw [bV_id w1] at ht
        left
        have y := fH_6 (s := tsI (tsL (t1H s f) 12 (p37 ((xSg χ f q).take 8))) 10 (Int32.ofNat q)) (k := 1) (pl := Int32.ofNat f) (by simp [gT, e7])
        exact ⟨_, _, _, _, _, hc, ht, thr_wH _ _ _, y.1, y.2, by decide, by simp [wH, gC, e5], by simp [wH, gC, e6]⟩
      · rw [if_neg q3] at w0 w1
        rw [bV_id w0] at hc
        rw [bV_id w1] at ht
        right
        have hgl : gl (xSg χ f q) := by
          refine ⟨by rw [xSg_len]; omega, ?_⟩
          intro x hx
          unfold xSg at hx
          rw [List.mem_map] at hx
          obtain ⟨i, hi, rfl⟩ := hx
          rw [List.mem_range] at hi
          exact xW_all n f (f + i) (by omega) (by rw [hq]; omega)
        have a1 := LFc_of0 (LFc0_k (w := w) (o := xK (xSg χ f q) 23 0) (LFc0_I (x := 1004) (a := w) (v := 1) (by simp) (LFc0_I (x := 1003) (a := w) (v := Int32.ofNat q) (by simp) (LFc0_L (a := w) (v := p8 (xSg χ f q)) f0))))
        have a2 := LFt_I (x := 8) (v := if kv (xSg χ f q) = -1 then 1 else 2) (by simp) (LFt_I (x := 11) (v := kv (xSg χ f q)) (by simp) (LFt_I (x := 10) (v := Int32.ofNat q) (by simp) (LFt_L (v := p37 (xSg χ f q)) g0)))
        refine ⟨_, _, q, f, hc, ht, ⟨LXb_of hL0 a1 a2 (by omega) ?_ (by simp [gT]), by omega, ?_, by simp [gT, e4], ?_, ?_⟩, hfl.1, by simp [gT, e7], by simp [gT, t1H], a1, a2, fun z => absurd z (by rw [t_I_I, if_pos rfl]; by_cases hh : kv (xSg χ f q) = -1 <;> simp [hh])⟩
        · cases xK (xSg χ f q) 23 0 <;> simp [kwH, gC]
        · cases xK (xSg χ f q) 23 0 <;> simp [kwH, gC, e2]
        · cases hx : xK (xSg χ f q) 23 0 with
          | none =>
            have hkv : kv (xSg χ f q) = -1 := by unfold kv; rw [hx]
            simp [kwH, gC, gT, hkv]
          | some j =>
            have := xK_some 23 0 j hx
            have hz : ¬ (Int32.ofNat j = -1) := by
              rw [z_m1, z_nm (by omega)]; exact id
            have hkv : kv (xSg χ f q) = Int32.ofNat j := by unfold kv; rw [hx]
            simp [kwH, gC, gT, hz, hkv]
        · cases hx : xK (xSg χ f q) 23 0 with
          | none =>
            right; left
            have hkv : kv (xSg χ f q) = -1 := by unfold kv; rw [hx]
            refine ⟨by simp [gT, hkv], by omega, ⟨xSg χ f q, hgl, ?_, ?_⟩⟩
            · simp [kwH, gC]
            · simp [gT]
          | some j =>
            have hj := xK_some 23 0 j hx
            have hz : ¬ (Int32.ofNat j = -1) := by
              rw [z_m1, z_nm (by omega)]; exact id
            right; right; left
            have hkv : kv (xSg χ f q) = Int32.ofNat j := by unfold kv; rw [hx]
            refine ⟨by simp [gT, hkv, hz], by omega, j, by omega, ?_, ?_, ?_⟩
            · simp [kwH, gC]
            · simp [gT, hkv]
            · rw [hj.2.2, xSg_len]; omega
    · rw [if_neg q2] at hc ht
      by_cases q4 : aD (χ f) = true
      · rw [if_pos q4] at hc ht
        have w0 := c_number (χ := χ) (d + 4) hWc (by rw [e5]; exact l1) (by omega) e1 e2
        have w1 := t_number (χ := χ) (e + 16) hXt (by omega) e3 e4
        have x1 : f < (xN χ n f 0).1 := by
          obtain ⟨n', rfl⟩ : ∃ n', n = n' + 1 := ⟨n - 1, by omega⟩
          have : xN χ (n' + 1) f 0 = xN χ n' (f + 1) (nX 0 (χ f)) := by simp [xN, q4]
          rw [this]
          have := xN_le (χ := χ) h8 n' (f + 1) (nX 0 (χ f)) (by omega)
          omega
        have x2 := (xN_le (χ := χ) h8 n f 0 (by omega)).2
        generalize xN χ n f 0 = r at w0 w1 x1 x2
        obtain ⟨q, v⟩ := r
        simp only at w0 w1 x1 x2
        by_cases q5 : 2147483647 < v
        · rw [if_pos q5] at w0 w1
          rw [bV_idx w0] at hc
          rw [bV_id w1] at ht
          left
          have y := fH_6 (s := tsI (t1H s f) 10 (Int32.ofNat q)) (k := 1) (pl := Int32.ofNat f) (by simp [gT, e7])
          exact ⟨_, _, _, _, _, hc, ht, thr_wH _ _ _, y.1, y.2, by decide, by simp [wH, gC, e5], by simp [wH, gC, e6]⟩
        · rw [if_neg q5] at w0 w1
          rw [bV_id w0] at hc
          rw [bV_id w1] at ht
          right
          have a1 := LFc_of0 (LFc0_I (x := 1006) (a := w) (v := v.toInt32) (by simp) (LFc0_I (x := 1003) (a := w) (v := Int32.ofNat q) (by simp) (LFc0_I (x := 1004) (a := w) (v := 3) (by simp) f0)))
          have a2 := LFt_I (x := 8) (v := 3) (by simp) (LFt_I (x := 11) (v := v.toInt32) (by simp) (LFt_I (x := 10) (v := Int32.ofNat q) (by simp) g0))
          refine ⟨_, _, q, f, hc, ht, ⟨LXb_of hL0 a1 a2 (by omega) (by simp [gC]) (by simp [gT]), by omega, by simp [gC, e2], by simp [gT, e4], by simp [gC, gT], Or.inr (Or.inr (Or.inr (Or.inl ⟨by simp [gT], by omega, by simp [gC, gT]⟩)))⟩, hfl.1, by simp [gT, e7], by simp [gT, t1H], a1, a2, fun z => absurd z (by simp [gT])⟩
      · rw [if_neg q4] at hc ht
        by_cases q6 : χ f = 47
        · rw [if_pos q6] at hc ht
          generalize hx : xP χ n m n f true [] = r
          obtain ⟨q, b, l⟩ := r
          obtain ⟨y1, y2, y3, F, y4, y5, y6⟩ := c_path (χ := χ) (d + 4) m1 hWc (by rw [e5]; exact l1) s1 s2 s3 (by rw [e5]; exact l2) m2 (by omega) e1 e2 q b l hx
          have hxb := xP_b (χ := χ) (m := m) h8 n f true [] (by omega) (Nat.zero_le _)
          rw [hx] at hxb
          simp only at hxb
          have hll : l.length < 2147483648 := by omega
          obtain ⟨F2, z1, z2⟩ := t_path (χ := χ) (e + 15) m1 hXt (by simp [t1H, gT, m3]) (by omega) q6 e3 e4 q b l hx hll
          have hp2 : (if xT χ q = 0 then q else q + 2) ≤ n := by
            split
            · exact y2
            · rename_i r
              unfold xT at r
              apply Nat.le_of_not_lt
              intro r2
              have : χ (q + 1) = -1 := h8 _ (by omega)
              simp [this] at r
          by_cases hbad : b = false ∨ (l = [] ∧ xT χ q = 0)
          · rw [if_pos hbad] at z2
            rw [bV_idx (y5 hbad)] at hc
            rw [bV_id z2] at ht
            left
            have y := fH_6 (s := tpH (t1H s f) F2 l.length (xT χ q) (if xT χ q = 0 then q else q + 2)) (k := 1) (pl := Int32.ofNat f) (by simp [tpH, gT, tfB_I, e7])
            exact ⟨_, _, _, _, _, hc, ht, thr_wH _ _ _, y.1, y.2, by decide, by simp [wH, gC, e5], by simp [wH, gC, e6]⟩
          · rw [if_neg hbad] at z2
            obtain ⟨G, g1, g2⟩ := y6 hbad
            rw [bV_id g2] at hc
            rw [bV_id z2] at ht
            have hb : b = true := by cases b <;> simp_all
            have hlm := y3 hb
            right
            have a1 := LFc_pat (w := w) (k0 := l.length) (tl := Int32.ofNat (xT χ q)) (G := G) (by omega) (LFc0_I (x := 1003) (a := w) (v := Int32.ofNat (if xT χ q = 0 then q else q + 2)) (by simp) (LFc0_I (x := 1004) (a := w) (v := 4) (by simp) (LFc0_f (F := F) f0)))
            have a2 := LFt_I (x := 8) (v := 4) (by simp) (LFt_I (x := 15) (v := Int32.ofNat (xT χ q)) (by simp) (LFt_I (x := 14) (v := Int32.ofNat l.length) (by simp) (LFt_I (x := 10) (v := Int32.ofNat (if xT χ q = 0 then q else q + 2)) (by simp) (LFt_f (F := F2) g0))))
            have hfq : f < (if xT χ q = 0 then q else q + 2) := by
              split
              · rename_i r
                apply hxb.2.2.2
                intro e9
                exact hbad (Or.inr ⟨e9, r⟩)
              · omega
            refine ⟨_, _, (if xT χ q = 0 then q else q + 2), f, hc, ht, ⟨LXb_of hL0 a1 a2 hp2 (by simp [patH, gC]) (by simp [tpH, gT]), by omega, ?_, by simp [tpH, gT, tfB_I, e4], ?_, ?_⟩, hfl.1, by simp [tpH, gT, tfB_I, e7], by simp [tpH, gT, tfB_I, t1H], a1, a2, fun z => absurd z (by simp [gT])⟩
            · simp [patH, gC, e2]
            · simp [patH, gC, gT]
            · right; right; right; right; left
              refine ⟨by simp [gT], hfq, cNx c, l, xT χ q, ?_, ?_, ?_, hlm, xT_lt χ q, by simp [tpH, gT], by simp [tpH, gT], ?_⟩
              · simp [patH, gC, e5]
              · refine ⟨?_, ?_, cNx c + 1, ?_, ?_, ?_, ?_, ?_, ?_⟩
                · simp [patH, gC, e5]
                · simp [patH, gC, e5]; omega
                · simp [patH, gC, e5]
                · simp [patH, gC, e5]
                · simp [patH, gC, e5]
                · simp [patH, gC, e5]
                · intro i hi
                  rw [← g1 i hi]
                  simp [patH, gC, e5]
                · simp [patH, gC, e5]
              · have := xP_gs (χ := χ) (m := m) h8 n f true [] (fun _ x hx => by cases hx)
                rw [hx] at this
                exact this hb
              · intro i hi
                rw [← z1 hb i hi]
                simp [tpH, gT, tfB_B]
        · rw [if_neg q6] at hc ht
          obtain ⟨k, hk, ek⟩ := and255 (cAI c t f)
          have hχ : χ f = Int32.ofNat k := by rw [← hW.2.2.2.2.2.2.1 f hfn, ek]
          rw [hχ] at hc ht
          have w0 := c_sign (χ := χ) (d + 4) hWc (by rw [e5]; exact l1) hfn e1 e2 hk
          have w1 := t_sign (χ := χ) (e + 15) hXt hfn e3 e4 hk
          have htwo : two (Int32.ofNat k) (χ (f + 1)) = true → Int32.ofNat k ∈ sgs ∧ f + 2 ≤ n ∧ (Int32.ofNat k = 58 ∨ Int32.ofNat k = 61) := by
            intro r
            unfold two at r
            rw [Bool.and_eq_true, Bool.or_eq_true, decide_eq_true_eq, decide_eq_true_eq, decide_eq_true_eq] at r
            refine ⟨?_, ?_, r.2⟩
            · rcases r.2 with r2 | r2 <;> rw [r2] <;> decide
            · apply Nat.le_of_not_lt
              intro r3
              have r1 := r.1
              rw [h8 (f + 1) (by omega)] at r1
              exact absurd r1 (by decide)
          by_cases q7 : Int32.ofNat k ∉ sgs
          · have q8 : two (Int32.ofNat k) (χ (f + 1)) = false := by
              cases r : two (Int32.ofNat k) (χ (f + 1))
              · rfl
              · exact absurd (htwo r).1 q7
            rw [if_pos q7] at w0
            rw [q8, if_neg (by simp), if_pos q7] at w1
            rw [bV_idx w0] at hc
            rw [bV_id w1] at ht
            left
            have y := fH_6 (s := tsI (tsI (tsI (t1H s f) 10 (Int32.ofNat (f + 1))) 8 5) 11 (Int32.ofNat k)) (k := 1) (pl := Int32.ofNat f) (by simp [gT, e7])
            exact ⟨_, _, _, _, _, hc, ht, thr_wH _ _ _, y.1, y.2, by decide, by simp [wH, gC, e5], by simp [wH, gC, e6]⟩
          · rw [if_neg q7] at w0
            have q7' : Int32.ofNat k ∈ sgs := Classical.not_not.1 q7
            rw [bV_id w0] at hc
            rw [bV_id w1] at ht
            right
            cases q8 : two (Int32.ofNat k) (χ (f + 1))
            · rw [q8] at hc ht
              simp only [Bool.false_eq_true, if_false, q7] at hc ht
              have a1 := LFc_of0 (LFc0_I (x := 1003) (a := w) (v := Int32.ofNat (f + 1)) (by simp) (LFc0_I (x := 1006) (a := w) (v := Int32.ofNat k) (by simp) (LFc0_I (x := 1004) (a := w) (v := 5) (by simp) f0)))
              have a2 := LFt_I (x := 11) (v := Int32.ofNat k) (by simp) (LFt_I (x := 8) (v := 5) (by simp) (LFt_I (x := 10) (v := Int32.ofNat (f + 1)) (by simp) g0))
              refine ⟨_, _, f + 1, f, hc, ht, ⟨LXb_of hL0 a1 a2 (by omega) (by simp [gC]) (by simp [gT]), by omega, by simp [gC, e2], by simp [gT, e4], by simp [gC, gT], Or.inr (Or.inr (Or.inr (Or.inr (Or.inr ⟨by simp [gT], by omega, Or.inr (Or.inr ⟨by simp [gC, gT], by simp [gC, q7']⟩)⟩))))⟩, hfl.1, by simp [gT, e7], by simp [gT, t1H], a1, a2, fun z => absurd z (by simp [gT])⟩
            · rw [q8] at hc ht
              simp only [if_true] at hc ht
              obtain ⟨u1, u2, u3⟩ := htwo q8
              have a1 := LFc_of0 (LFc0_I (x := 1003) (a := w) (v := Int32.ofNat (f + 2)) (by simp) (LFc0_I (x := 1006) (a := w) (v := 256 * Int32.ofNat k + 61) (by simp) (LFc0_I (x := 1004) (a := w) (v := 5) (by simp) f0)))
              have a2 := LFt_I (x := 10) (v := Int32.ofNat (f + 2)) (by simp) (LFt_I (x := 11) (v := if Int32.ofNat k = 58 then 256 else 257) (by simp) (LFt_I (x := 11) (v := Int32.ofNat k) (by simp) (LFt_I (x := 8) (v := 5) (by simp) (LFt_I (x := 10) (v := Int32.ofNat (f + 1)) (by simp) g0))))
              refine ⟨_, _, f + 2, f, hc, ht, ⟨LXb_of hL0 a1 a2 (by omega) (by simp [gC]) (by simp [gT]), by omega, by simp [gC, e2], by simp [gT, e4], by simp [gC, gT], Or.inr (Or.inr (Or.inr (Or.inr (Or.inr ⟨by simp [gT], by omega, ?_⟩))))⟩, hfl.1, by simp [gT, e7], by simp [gT, t1H], a1, a2, fun z => absurd z (by simp [gT])⟩
              rcases u3 with u3 | u3
              · left
                have e9 : (256 : Int32) * 58 + 61 = 14909 := by decide
                exact ⟨by simp [gC, u3, e9], by simp [gT, u3]⟩
              · right; left
                have e9 : (256 : Int32) * 61 + 61 = 15677 := by decide
                exact ⟨by simp [gC, u3, e9], by simp [gT, u3]⟩
