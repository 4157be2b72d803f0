set_option maxRecDepth 100000
set_option maxHeartbeats 4000000
/-! D104: the end of a fun -/
theorem csR_same (c : cS) (x a : Nat) (v w : Value) : csR (csR c x a v) x a w = csR c x a w := by
  have e : (fun y b => if y = x ∧ b = a then w else (if y = x ∧ b = a then v else c.2.2.1 y b)) = (fun y b => if y = x ∧ b = a then w else c.2.2.1 y b) := by
    funext y b
    by_cases h : y = x ∧ b = a
    · rw [if_pos h, if_pos h]
    · rw [if_neg h, if_neg h, if_neg h]
  show (c.1, c.2.1, (fun y b => if y = x ∧ b = a then w else (if y = x ∧ b = a then v else c.2.2.1 y b)), c.2.2.2) = (c.1, c.2.1, (fun y b => if y = x ∧ b = a then w else c.2.2.1 y b), c.2.2.2)
  rw [e]
theorem tsI_self (s : tS) (x : Nat) : tsI s x (tI s x) = s := by
  have e : (fun y => if y = x then tI s x else s.1 y) = s.1 := by
    funext y
    by_cases h : y = x
    · rw [if_pos h, h]; rfl
    · rw [if_neg h]
  show ((fun y => if y = x then tI s x else s.1 y), s.2) = s
  rw [e]
section
variable {χ : Nat → Int32} {n t r : Nat} {Oa Ou : Nat → Prop} {O : Nat}
/-- a sign where the reference's counters and numbers differ -/
theorem P_signO (d e : Nat) {p f : Nat} {vo : Nat → Nat} {Op : Nat → Prop} {E : Nat} {c : cS} {s : tS} (k : Int32) (h : RP χ n t r p f vo Op Oa Ou E O c s) {q : tS} (h6 : tI q 6 = 0) (hI : ∀ x, x ∈ [4, 8, 9, 10, 11, 14, 15, 16] → tI q x = tI s x) (h3 : ∀ k, tA q 3 k = tA s 3 k) (hxy : (cI c 1004 (r + 16) = 5 ∧ cI c 1006 (r + 16) = k) = (tI s 8 = 5 ∧ tI s 11 = k)) :
    lxBad (cC (d + 22) 1012 [eR (.ref (r + 16)), eI k] c) (cT (e + 21) 26 [eR (.ref 0), eI k] q) c ∨ (tI s 8 = 5 ∧ tI s 11 = k) ∧ ∃ c' z p' f', cC (d + 22) 1012 [eR (.ref (r + 16)), eI k] c = some (.inl none, c') ∧ cT (e + 21) 26 [eR (.ref 0), eI k] q = some (.inl none, z) ∧ ov z q = z ∧ WK χ n t r p vo Op Oa Ou E O c s c' (ov z s) p' f' := by
  have hw := h.1.1.1.1
  have hl := h.1.1.2.2.2.2.1.1
  rw [c_signE (d + 7) k hw hl, t_signE (e + 17)]
  simp only [hxy, h6, hI 8 (by simp), hI 11 (by simp), true_and, if_true]
  by_cases w : tI s 8 = 5 ∧ tI s 11 = k
  · rw [if_pos w, if_pos w]
    rcases P_nextO d e h h6 hI h3 with hb | ⟨c', z, p', f', h1, h2, h3, h4⟩
    · left
      exact lxBad_V hb
    · right
      exact ⟨w, c', z, p', f', bV_id h1, bV_id h2, h3, h4⟩
  · rw [if_neg w, if_neg w]
    left
    obtain ⟨y1, _, _, _, _⟩ := lx_mis h.1 h.2.1 1 (by decide)
    have hj : tI s 9 = Int32.ofNat f := h.1.2.2.2.1
    have hend : tI s 8 = 0 → tI s 4 = Int32.ofNat f := fun w8 => by
      obtain ⟨_, y2, y3, _, _⟩ := lx_mis h.1 h.2.1 1 (by decide)
      rw [if_pos w8] at y3
      have := (fH_6 (k := 1) (pl := tI s 4) h.2.1).2
      rw [this] at y3; exact y3
    refine ⟨_, _, _, _, _, rfl, rfl, y1, (fH_6 h6).1, ?_, by decide, by rw [(wH_nx _ _ _).1]; omega, by rw [(wH_nx _ _ _).2]; omega⟩
    rw [(fH_6 h6).2, hI 4 (by simp), hI 9 (by simp)]
    by_cases w8 : tI s 8 = 0
    · rw [if_pos w8]; exact hend w8
    · rw [if_neg w8]; exact hj
theorem fun_end (dc dt : Nat) {H D H2 D2 : Nat} (hH : 1 ≤ H2 → 14 ≤ H) (hH2 : H2 ≤ 149) (hD2 : D2 ≤ 24) {vo vo5 : Nat → Nat} {Op : Nat → Prop} {E p f p3 f3 p5 f5 p8 f8 u lu b0 N a x : Nat} {c c3 c5 c8 : cS} {s s3 s5 s8 q3 q5 : tS} (hR : RP χ n t r p f vo Op Oa Ou E O c s) (hu0 : u = cnt s 35) (hb0 : b0 = cnt s3 56)
    (hB3 : BS χ n t r f vo Op Oa (fun k => Ou k ∨ k = u) E 60 O c s N 9 [] p3 f3 vo c3 s3) (hpf3 : p ≤ f3) (hUN : UN r c3 s3 u (cnt s 64) 1 lu) (k68 : tA s3 68 N = Int32.ofNat u)
    (hKC0 : KC r c3 (csR c3 803 r (.ref lu))) (hKT0 : KT s3 (tsI s3 64 (Int32.ofNat u)))
    (hPI : PI χ n t r u lu b0 0 (fun y => Op y ∨ y = N) Oa (fun k => Ou k ∨ k = u) (E + 60) O vo5 p5 f5 c5 q5 s5) (hPQ : PQ n r lu u vo f3 c3 q3 (tsI s3 64 (Int32.ofNat u)) vo5 f5 c5 q5 s5)
    (hX8 : PXo χ n t r f5 p5 vo5 (fun y => Op y ∨ y = N) Oa (fun k => Ou k ∨ k = u) (E + 60) O (csR c5 803 r (.ref lu)) s5 H2 D2 a x c8 s8 p8 f8)
    (k1 : cNx c3 + 300 * (n - f3) + 100 ≤ cNx c + 300 * (n - f)) (k2 : cSl c3 + 2000 * (n - f3) + 500 ≤ cSl c + 2000 * (n - f)) :
    PX χ n t r f p vo Op Oa Ou E O c s H D (cpR c8 1611 (.ref lu) (.ref a) fun h23 => cpR h23 803 (.ref r) (.ref (lid c3 (r + 8) (cnt s 64))) fun h24 => bV (cC (dc + 31) 820 [eR (.ref r), eI (Int32.ofNat b0)] h24) fun h25 => cgR h25 800 (.ref r) fun v26 => bV (cC (dc + 31) 1012 [eR v26, eI 125] h25) fun h27 => cnw h27 24 fun v28 h29 => bV (cC (dc + 31) 2400 [eR v28, eR (.ref lu), eR .null] h29) fun h30 => some (.inl (some (eR v28)), h30))
      (bV (cT (dt + 30) 26 [eR (.ref 0), eI 125] s8) fun h4 => tsaI h4 41 (Int32.ofNat u) (Int32.ofNat x) fun h6 => tpI h6 64 (Int32.ofNat (cnt s 64)) fun h7 => tpI h7 56 (Int32.ofNat b0) fun h8 => some (.inl (some (eI (Int32.ofNat N))), h8)) := by
  have hz := RP_len hR
  obtain ⟨hOu0, hOp0, hOa0, hOu3⟩ := (⟨hR.2.2.2.2.2.1, hR.2.2.2.2.2.2.1, hR.2.2.2.2.2.2.2.1, hR.2.2.2.2.2.2.2.2⟩ : Ou (cnt s 64) ∧ (∀ y, Op y → Ou (ca s 67 y) ∧ y < cnt s 65) ∧ (∀ k, Oa k → k < cnt s 48) ∧ (∀ k, Ou k → k < cnt s 35))
  have hR3 := hB3.1
  obtain ⟨hu3, h40, hwu, h36, hlu, h1603⟩ := id hUN
  obtain ⟨hR5, hVQ5, h645, hu5, hlu5, _, _, _, hvis5, hb05, _⟩ := id hPI
  obtain ⟨q1, q2, q3', q4', q5', q6', q7', q8, q9, q10, q11, q12, q13, _⟩ := hPQ
  have q3 : TH [8, 9, 10, 11, 14, 15, 50, 56, 64] [12] [39, 51, 53, 54, 57] [13, 52] s3 s5 := TH_trans (TH_wk (by decide) (TH_I (YI := [64]) (YL := []) (YA := []) (YB := []) (x := 64) (v := Int32.ofNat u) (by simp) (TH_refl _ _ _ _ s3))) (TH_wk (by decide) q3')
  have q4 : ∀ i, i < cnt s3 56 → tA s5 57 i = tA s3 57 i := q4'
  have q5 : cnt s3 56 ≤ cnt s5 56 := q5'
  have q6 : ∀ v, v < cnt s3 50 → vo5 v = vo v := q6'
  have q7 : cnt s3 50 ≤ cnt s5 50 := q7'
  obtain ⟨vo8, g8, W8, hR8, hST8, hvo8, hy0, hy1, hT8, h71, hKS8, hpf8⟩ := hX8
  have hU3 := hR3.2.2.2.1.2.2.2.2.2.1
  have hU8 := hR8.2.2.2.1.2.2.2.2.2.1
  have h60 := hU8.1.2
  have hu60 : u < 60 := by have := hU3.1.2; omega
  have c645 : cnt s5 64 = u := cnt_of h645 (by omega)
  have c648 : cnt s8 64 = u := hKS8.2.2.2.2.trans c645
  have c568 : cnt s8 56 = cnt s5 56 := hKS8.2.1
  have hS8 := hR8.2.2.2.1.1
  have hH := hH (TR_H _ _ _ _ _ _ _ hT8)
  have hI8 := hR8.2.2.2.1.2.2.2.2.2.2.2.1
  have hV5 := hR5.2.2.2.1.2.2.2.2.2.2.1
  have hI5 := hR5.2.2.2.1.2.2.2.2.2.2.2.1
  -- KC and KT from c3 to c8
  have len3 : (cLs c3 (r + 8)).length = cnt s3 35 := RP_len hR3
  have len5 : (cLs (csR c5 803 r (.ref lu)) (r + 8)).length = cnt s5 35 := RP_len hR5
  have len8 : (cLs c8 (r + 8)).length = cnt s8 35 := RP_len hR8
  have h35a : cnt s3 35 ≤ cnt s5 35 := q2.1 35 (by simp)
  have h35b : cnt s5 35 ≤ cnt s8 35 := hST8.2.1.1 35 (by simp)
  have hKC35 := KC_trans (show (cLs c3 (r + 8)).length ≤ (cLs (csR c3 803 r (.ref lu)) (r + 8)).length from Nat.le_refl _) hKC0 q1
  have hKC38 := KC_trans (by rw [len3, len5]; exact h35a) hKC35 hST8.1
  have hKT38 := KT_trans hKT0 (KT_trans q2 hST8.2.1)
  have hlid : ∀ k, k < cnt s3 35 → lid c8 (r + 8) k = lid c3 (r + 8) k := fun k hk => hKC38.2.2.2.2.2.2.2.2 k (by rw [len3]; exact hk)
  have hlu8 : lid c8 (r + 8) u = lu := (hlid u hu3).trans hlu
  have hUN8 := UN_st hR3 hKC38 hKT38 hUN
  obtain ⟨hu8, h408, _, h368, _, h16038⟩ := id hUN8
  have hcu8 : cCl c8 lu = 16 := by rw [← hlu8]; exact (RUt_cap hU8 hu8).2.2.2
  have hr8 : cCl c8 r = 8 := hS8.1
  have hrl : lu ≠ r := fun q => by rw [q, hr8] at hcu8; cases hcu8
  have hlw : lid c8 (r + 8) (cnt s 64) = lid c3 (r + 8) (cnt s 64) := hlid _ (by omega)
  have hcw8 : cCl c8 (lid c8 (r + 8) (cnt s 64)) = 16 := (RUt_cap hU8 (by omega)).2.2.2
  -- the hidden variables
  have hvis8 : ∀ i, b0 ≤ i → i < cnt s8 56 → ca s8 51 (ca s8 57 i) = u := fun i h1 h2 => by
    have hi5 : i < cnt s5 56 := by omega
    have g2 : ca s5 57 i < cnt s5 50 := (hI5.2.2.1.2.2 i hi5).2.1
    have e1 : ca s8 57 i = ca s5 57 i := ca_eq (hKS8.2.2.1 i hi5)
    rw [e1]
    have e2 : ca s8 51 (ca s5 57 i) = ca s5 51 (ca s5 57 i) := ca_eq (hST8.2.1.2.2.1 _ g2).1
    rw [e2]; exact hvis5 i h1 hi5
  have hvisO : ∀ i, i < b0 → ca s8 51 (ca s8 57 i) ≠ u := fun i hi => by
    have hi3 : i < cnt s3 56 := by omega
    have hi0 : i < cnt s 56 := by have := hB3.2.2.2.2.2.1.2.1; omega
    have hi5 : i < cnt s5 56 := by omega
    have g2 : ca s 57 i < cnt s 50 := (hR.2.2.2.1.2.2.2.2.2.2.2.1.2.2.1.2.2 i hi0).2.1
    have e3 : ca s3 57 i = ca s 57 i := ca_eq (hB3.2.2.2.2.2.1.2.2.1 i hi0)
    have e5 : ca s5 57 i = ca s3 57 i := ca_eq (q4 i hi3)
    have e8 : ca s8 57 i = ca s5 57 i := ca_eq (hKS8.2.2.1 i hi5)
    rw [e8, e5, e3]
    have b3 : cnt s 50 ≤ cnt s3 50 := hB3.2.1.2.1.1 50 (by simp)
    have w3 : ca s3 51 (ca s 57 i) = ca s 51 (ca s 57 i) := ca_eq (hB3.2.1.2.1.2.2.1 _ g2).1
    have w8 : ca s8 51 (ca s 57 i) = ca s3 51 (ca s 57 i) := ca_eq (hKT38.2.2.1 _ (by omega)).1
    rw [w8, w3]
    have := (hR.2.2.2.1.2.2.2.2.2.2.1.2.1 _ g2).2.2.1
    omega
  -- the runs: field 1611, the unit again, hiding
  have hfr9 : RSt r (csR (csR c8 1611 lu (.ref a)) 803 r (.ref (lid c8 (r + 8) (cnt s 64)))) := RSt_fr (XI := []) (XL := []) (XR := [803, 1611]) (XC := []) (CH_R (Or.inl (by simp)) (CH_R (Or.inl (by simp)) (CH_refl _ _ _ _ c8))) (by decide) hS8
  have hvl8 : (cLs c8 (r + 15)).length = cnt s8 56 := hI8.2.2.1.2.1
  have hvb : cnt s8 56 ≤ 12 := hI8.2.2.1.1.2
  obtain ⟨c10, e1, hLA, nx10, sl10, cap10, ar10⟩ := c_hide (r := r) (dc + 21) (cnt s8 56 - b0) b0 (csR (csR c8 1611 lu (.ref a)) 803 r (.ref (lid c8 (r + 8) (cnt s 64)))) hfr9 (by show (cLs c8 (r + 15)).length = _; rw [hvl8]; omega) (by omega)
  have e1' : cC (dc + 31) 820 [eR (.ref r), eI (Int32.ofNat b0)] (csR (csR c8 1611 lu (.ref a)) 803 r (.ref (lid c8 (r + 8) (cnt s 64)))) = some (.inl none, c10) := by
    rw [kX8_hide, r_cck, if_pos hfr9.1, e1]
  have hlad := LA_R (y := 1611) (b := lu) (w := cR c8 1611 lu) (LA_R (y := 803) (b := r) (w := cR c8 803 r) hLA)
  have eb : csR (csR (csR (csR c8 1611 lu (.ref a)) 803 r (.ref (lid c8 (r + 8) (cnt s 64)))) 803 r (cR c8 803 r)) 1611 lu (cR c8 1611 lu) = c8 := by
    have e2 := csR_back (csR c8 1611 lu (.ref a)) 803 r (.ref (lid c8 (r + 8) (cnt s 64)))
    have e3 : cR (csR c8 1611 lu (.ref a)) 803 r = cR c8 803 r := by rw [g_R_R, if_neg (by simp)]
    rw [e3] at e2
    rw [e2]
    exact csR_back c8 1611 lu (.ref a)
  rw [eb] at hlad
  have hRc10 : cR c10 = cR (csR (csR c8 1611 lu (.ref a)) 803 r (.ref (lid c8 (r + 8) (cnt s 64)))) := hLA.2.1.2.2.1
  have ef : csR (csR (csR (csR c10 803 r (cR c8 803 r)) 1611 lu (cR c8 1611 lu)) 1611 lu (.ref a)) 803 r (.ref (lid c8 (r + 8) (cnt s 64))) = c10 := by
    rw [csR_same, csR_RR _ _ _ _ _ (show 1611 ≠ 803 by decide), csR_same]
    have e2 : Value.ref (lid c8 (r + 8) (cnt s 64)) = cR c10 803 r := by rw [hRc10, g_R_R, if_pos ⟨rfl, rfl⟩]
    have e3 : Value.ref a = cR c10 1611 lu := by rw [hRc10, g_R_R, if_neg (by simp), g_R_R, if_pos ⟨rfl, rfl⟩]
    rw [e2, csR_self, e3, csR_self]
  have hn9 : CLN (csR (csR c8 1611 lu (.ref a)) 803 r (.ref (lid c8 (r + 8) (cnt s 64)))) := CLN_R (x := 803) hr8 (CLN_R (x := 1611) hcu8 hR8.2.2.1)
  have hn10 : CLN c10 := cC_cln e1' hn9
  have hcl10 : cCl c10 = cCl c8 := hLA.2.1.2.2.2.2.2.1
  have hnd : CLN (csR (csR c10 803 r (cR c8 803 r)) 1611 lu (cR c8 1611 lu)) := CLN_R (x := 1611) (by show cCl c10 lu = _; rw [hcl10, hcu8]) (CLN_R (x := 803) (by rw [hcl10, hr8]) hn10)
  obtain ⟨hRh, hKCh, hKTh, c56h, hrawh⟩ := P_hideL hR8 (show b0 ≤ cnt s8 56 by omega) (fun i h1 h2 => by rw [hvis8 i h1 h2, c648]; exact Nat.le_refl _) hlad hnd
  generalize hcd : csR (csR c10 803 r (cR c8 803 r)) 1611 lu (cR c8 1611 lu) = cd at *
  have hthh : TH [56] [] [] [] s8 (tsI s8 56 (Int32.ofNat b0)) := TH_I (by simp) (TH_refl _ _ _ _ s8)
  have hlidd : ∀ k, k < cnt s8 35 → lid cd (r + 8) k = lid c8 (r + 8) k := fun k hk => hKCh.2.2.2.2.2.2.2.2 k (by rw [len8]; exact hk)
  have hud : lid cd (r + 8) u = lu := (hlidd u hu8).trans hlu8
  have hwd : lid cd (r + 8) (cnt s 64) = lid c8 (r + 8) (cnt s 64) := hlidd _ (by omega)
  have hUNd := UN_st hR8 hKCh hKTh hUN8
  have hOpw : ∀ y, (Op y ∨ y = N) → Ou (ca (tsI s8 56 (Int32.ofNat b0)) 67 y) := fun y' hy' => by
    show Ou (ca s8 67 y')
    have hN1 : N < cnt s3 65 := hB3.2.2.2.2.1
    have h65a : cnt s3 65 ≤ cnt s5 65 := q2.1 65 (by simp)
    have e67 : ∀ y, y < cnt s3 65 → ca s8 67 y = ca s3 67 y := fun y hy => by
      have e1 : ca s8 67 y = ca s5 67 y := ca_eq (hST8.2.2.1 y (by show y < cnt s5 65; omega) 67 (by simp))
      rw [e1]; exact th_ca q3 (by decide) y
    rcases hy' with q | q
    · obtain ⟨z1, z2⟩ := hOp0 y' q
      have z3 : y' < cnt s3 65 := Nat.lt_of_lt_of_le z2 (hB3.2.1.2.1.1 65 (by simp))
      rw [e67 y' z3, ca_eq (hB3.2.1.2.2.1 y' z2 67 (by simp))]
      exact z1
    · rw [q, e67 N hN1, ca_of hB3.2.2.2.2.2.2.2.1 (by have := hR.2.2.2.1.2.2.2.2.2.2.2.1.1.1.2; omega)]
      exact hOu0
  have h900 := hR8.2.2.2.1.2.1.2.2.2.2.1.2
  have hTd : TR g8 (fun y => cnt s5 65 ≤ y ∧ y < cnt s8 65 ∧ y ≠ x) r cd (tsI s8 56 (Int32.ofNat b0)) u H2 D2 a x W8 := by
    have hT8' := hT8
    rw [c645] at hT8'
    exact TR_mono hKCh hKTh (RP_len hR8) (fun v hv => (hR8.2.2.2.1.2.2.2.2.2.2.1.2.1 v hv).2.2.1) (fun _ _ _ _ => rfl) hu8 g8 _ _ _ _ _ (fun _ _ => rfl) hT8'
  obtain ⟨hRl, hKCl, hKTl, c64l⟩ := P_leave (Ou := Ou) (w := cnt s 64) (E := E + 60) (W := W8) (a := a) (y := x) hRh (show cnt s8 64 = u from c648) (show tA s8 40 u = _ from h408) hwu (fun k q => q) (fun q => by have := hOu3 u q; omega) hOu0 (fun k q => by have := hOu3 k q; show k < cnt s8 35; omega) hOpw (fun i hi => by
      rw [c56h] at hi
      exact hvisO i hi) (by
      have e := hUNd.2.2.2.2.2
      rw [hud]; exact e) (by omega) hH2 hD2 (fun q => by
      have : tA s8 36 u = 3 := q
      rw [h368] at this
      exact absurd this (by decide)) hTd
  rw [hud, hwd, ef] at hRl hKCl
  have hrawl : ∀ b, raw cd b → raw c10 b := by
    have q' : ∀ b, raw cd b → raw (csR (csR cd 1611 lu (.ref a)) 803 r (.ref (lid c8 (r + 8) (cnt s 64)))) b := raw_W (raw_W (fun _ q => q))
    rw [ef] at q'
    exact q'
  rw [r_cpR, if_pos ⟨hcu8, rfl⟩, r_cpR, if_pos ⟨show cCl c8 r = 8 from hr8, rfl⟩, ← hlw, e1', b_V, RP_800 hRl]
  have hthl : TH [56, 64] [] [41] [] s8 (tsI (tsA (tsI s8 56 (Int32.ofNat b0)) 41 u (Int32.ofNat x)) 64 (Int32.ofNat (cnt s 64))) := TH_I (by simp) (TH_A (by simp) (TH_I (by simp) (TH_refl _ _ _ _ s8)))
  have hnx10 : cNx c10 = cNx c8 := nx10
  have hsl10 : cSl c10 = cSl c8 := sl10
  have m1 := hST8.2.2.2.1
  have m2 := hST8.2.2.2.2.1
  have m3 : f5 ≤ f8 := hST8.2.2.2.2.2.1
  have m1' : cNx c8 + 300 * (n - f8) ≤ cNx c5 + 300 * (n - f5) := m1
  have m2' : cSl c8 + 2000 * (n - f8) ≤ cSl c5 + 2000 * (n - f5) := m2
  rcases P_signO (dc + 9) (dt + 9) 125 hRl (q := s8) hR8.2.1 (fun z hz' => (th_I hthl (by simp only [List.mem_cons, List.not_mem_nil, or_false] at hz' ⊢; omega)).symm) (fun k => (th_A hthl (by decide) k).symm) (lx_sgn hRl.1 (x := 125) (by decide)) with hb | ⟨hq, c11, z, p11, f11, e7, e8, hov, hW⟩
  · left
    exact j_lx hb (f1 := f8) (by omega) (by omega) (fun s' q2 => by
      rw [qs_41 hu60, r_tpI, r_tpI]
      exact ⟨_, _, rfl, rfl, rfl⟩)
  obtain ⟨hSW, hSW'⟩ := WK_ST hRl hW
  obtain ⟨j1, j2, j3⟩ := hSW' (by rw [hq.1]; decide)
  have hR11 := hW.1
  have hst : ov z (tsI (tsA (tsI s8 56 (Int32.ofNat b0)) 41 u (Int32.ofNat x)) 64 (Int32.ofNat (cnt s 64))) = tsI (tsI (tsA z 41 u (Int32.ofNat x)) 64 (Int32.ofNat (cnt s 64))) 56 (Int32.ofNat b0) := by
    rw [ov_I z _ (show 64 ∉ lexI by decide), ov_A, ov_I z _ (show 56 ∉ lexI by decide), hov]
    exact tsI_II (tsA z 41 u (Int32.ofNat x)) _ _ (show 56 ≠ 64 by decide)
  rw [e7, e8, b_V, b_V, qs_41 hu60, r_tpI, r_tpI, ← hst]
  generalize hs11 : ov z (tsI (tsA (tsI s8 56 (Int32.ofNat b0)) 41 u (Int32.ofNat x)) 64 (Int32.ofNat (cnt s 64))) = s11 at *
  have hthw := hW.2.2.2.1
  have h8_11 : TH [8, 9, 10, 11, 14, 15, 56, 64] [12] [41] [13] s8 s11 := TH_trans (TH_wk (by decide) hthl) (TH_wk (by decide) hthw)
  have hKC8l : KC r c8 c11 := KC_trans (by rw [len8, RP_len hRh]; exact Nat.le_refl _) hKCh (KC_trans (by rw [RP_len hRh, RP_len hRl]; exact Nat.le_refl _) hKCl hSW.1)
  have hKT8l : KT s8 s11 := KT_trans hKTh (KT_trans hKTl hSW.2.1)
  have hKC3f := KC_trans (by rw [len3, len8]; omega) hKC38 hKC8l
  have hKT3f := KT_trans hKT38 hKT8l
  have h50a : cnt s3 50 ≤ cnt s5 50 := q7
  have h65a : cnt s3 65 ≤ cnt s5 65 := q2.1 65 (by simp)
  have hrow : ∀ y, y < cnt s3 65 → ∀ z', z' ∈ [66, 67, 68, 69, 70, 71, 72] → tA s11 z' y = tA s3 z' y := fun y hy z' hz' => by
    rw [th_A h8_11 (by simp only [List.mem_cons, List.not_mem_nil, or_false] at hz' ⊢; omega), hST8.2.2.1 y (by show y < cnt s5 65; omega) z' hz']
    show tA s5 z' y = _
    exact th_A q3 (by simp only [List.mem_cons, List.not_mem_nil, or_false] at hz' ⊢; omega) y
  have hU0 := hR.2.2.2.1.2.2.2.2.2.1
  have hI0 := hR.2.2.2.1.2.2.2.2.2.2.2.1
  obtain ⟨k1', k2', k3', k4', k5'⟩ := id hB3.2.2.2.2.2.1
  have hKSf : KS s s11 := by
    have c25 : cnt s11 25 = cnt s8 25 := th_cnt h8_11 (by decide)
    have c35 : cnt s11 35 = cnt s8 35 := th_cnt h8_11 (by decide)
    have c64f : cnt s11 64 = cnt s 64 := (th_cnt hthw (by decide)).trans c64l
    have c56f : cnt s11 56 = b0 := by
      rw [th_cnt hthw (by decide)]
      exact c56h
    refine ⟨⟨?_, ?_, fun k hk hn => ?_⟩, by rw [c56f, hb0, k2'], fun i hi => ?_, ?_, c64f⟩
    · rw [c25, hKS8.1.1]
      show cnt s5 25 = _
      rw [th_cnt q3 (by decide)]; exact k1'.1
    · rw [c35]; exact Nat.le_trans k1'.2.1 (by omega)
    · obtain ⟨w1, w2⟩ := k1'.2.2 k hk hn
      have hk3 : k < cnt s3 35 := Nat.lt_of_lt_of_le hk k1'.2.1
      have hku : k ≠ u := by omega
      -- off the chain of the entered unit
      have hn5 : ¬ anc s5 60 (cnt s5 64) k := by
        rw [c645]
        intro q
        have e40 : ∀ z, z < cnt s3 35 → tA s5 40 z = tA s3 40 z := fun z _ => th_A q3 (by decide) z
        rw [anc_cg hU3 e40 _ _ _ hu3] at q
        have := anc_out hU3 hu3 h40 hwu (fun e => hku e) q
        apply w2
        rw [k5']; exact this
      obtain ⟨w3, w4⟩ := hKS8.1.2.2 k (by show k < cnt s5 35; omega) hn5
      refine ⟨?_, ?_⟩
      · rw [th_ca h8_11 (by decide), w3]
        show ca s5 44 k = _
        rw [th_ca q3 (by decide)]; exact w1
      · rw [c64f]
        intro q
        have e40 : ∀ z, z < cnt s8 35 → tA s11 40 z = tA s8 40 z := fun z _ => th_A h8_11 (by decide) z
        rw [anc_cg hU8 e40 _ _ _ (by omega)] at q
        apply w4
        rw [c648]
        exact anc_in hU8 hu8 h408 hwu q
    · rw [th_A h8_11 (by decide), hKS8.2.2.1 i (by show i < cnt s5 56; omega)]
      show tA s5 57 i = _
      rw [q4 i (by omega)]; exact k3' i hi
    · rw [th_cnt h8_11 (by decide), hKS8.2.2.2.1]
      show cnt s5 63 = _
      rw [th_cnt q3 (by decide)]; exact k4'
  have hn3f : f3 ≤ f11 := by omega
  have hraw0 : ∀ b, raw c b → raw c11 b := fun b q => by
    have r3 := hB3.2.1.2.2.2.2.2.2 b q
    have r4 : raw (csR c3 803 r (.ref lu)) b := raw_W (fun _ q => q) (by decide) b r3
    have r5 := q8 b r4
    have r8 := hST8.2.2.2.2.2.2 b r5
    exact hSW.2.2.2.2.2.2 b (hrawl b (hrawh b r8))
  have hB11 : BS χ n t r f vo Op Oa Ou E 60 O c s N 9 [] p11 f11 vo8 c11 s11 := BS_go (X' := 60) hz hB3 hR11 hKC3f hKT3f (fun v hv => by rw [hvo8 v (by show v < cnt s5 50; omega), q6 v hv]) (fun y hy z' hz' _ => hrow y hy z' hz') (TH_refl _ _ _ _ s) hKSf (by omega) (by omega) (by have := hB3.2.1.2.2.2.2.2.1; omega) hraw0
  have hUN11 := UN_st hR3 hKC3f hKT3f hUN
  have k6811 : tA s11 68 N = Int32.ofNat u := by rw [hrow N hB3.2.2.2.2.1 68 (by simp)]; exact k68
  rw [r_cnw]
  have hn11 := hR11.2.2.1
  have ha11 : cCl c11 (cNx c11) = 0 := (hn11 _ (Nat.le_refl _)).1
  have hnw : cmore (csCl c11 (cNx c11) 24) (csz 24) = nwC c11 24 := rfl
  have e11 := c_iu (dc + 20) (c := nwC c11 24) (a := cNx c11) (v1 := .ref lu) (v2 := .null) (nw_cl c11 24) rfl rfl
  have hfr : FR c11 (iuC (nwC c11 24) (cNx c11) (.ref lu) .null) := FR_R ha11 (FR_R ha11 (FR_nw ha11 (FR_refl c11)))
  have hcl6 : CLN (iuC (nwC c11 24) (cNx c11) (.ref lu) .null) := cC_cln e11 (P_new 24 hR11).2.2.1
  have hnx6 : cNx (iuC (nwC c11 24) (cNx c11) (.ref lu) .null) = cNx c11 + 1 := rfl
  have hsl6 : cSl (iuC (nwC c11 24) (cNx c11) (.ref lu) .null) = cSl c11 + csz 24 := rfl
  have hcz : csz 24 ≤ 10 := by decide
  have hR6 := RP_FR hfr (NF_nw (k := 24) (by decide) (NF_refl c11)) hcl6 hB11.1
  have hK6 := FR_kc hfr (NF_nw (k := 24) (by decide) (NF_refl c11)) hB11.1.2.2.2.1.1
  have g1 : cCl (iuC (nwC c11 24) (cNx c11) (.ref lu) .null) (cNx c11) = 24 := nw_cl c11 24
  have g2 : cR (iuC (nwC c11 24) (cNx c11) (.ref lu) .null) 2400 (cNx c11) = .ref lu := by simp [iuC, gC]
  have g3 : cR (iuC (nwC c11 24) (cNx c11) (.ref lu) .null) 2401 (cNx c11) = .null := by simp [iuC, gC]
  have hUN6 := UN_st hB11.1 hK6 (KT_refl s11) hUN11
  rw [hnw, e11, b_V]
  obtain ⟨r1, r2, r3, r4, r5⟩ := BS_root hB11 (by decide)
  have hraw6 : ∀ b, raw c b → raw (iuC (nwC c11 24) (cNx c11) (.ref lu) .null) b := fun b q => FR_raw hfr (NF_nw (k := 24) (by decide) (NF_refl c11)) b (hraw0 b q)
  generalize iuC (nwC c11 24) (cNx c11) (.ref lu) .null = c6 at *
  obtain ⟨u1, u2, u3, u4, u5, u6⟩ := hUN6
  have c68 := ca_of k6811 (by omega)
  have h70 : tA s11 70 N = -1 := hB11.2.2.2.2.2.2.2.2.2.1
  right
  refine ⟨cNx c11, N, c6, s11, p11, f11, rfl, rfl, BS_fin (g := 1) hz (by omega) hB11 ?_ hK6 (by omega) (by omega) hraw6 ?_⟩
  · rw [← Nat.add_assoc]
    exact P_close0 hR6 (by rw [r5]; decide)
  · refine Or.inr ⟨r1, r2, r3, r4, by omega, by show 8 ≤ 60; decide, ?_⟩
    exact Or.inr (Or.inr (Or.inr (Or.inr (Or.inr (Or.inr (Or.inr (Or.inr (Or.inl ⟨g1, hH, by show 50 ≤ 60; decide, aok_of k6811 (by omega) (by omega), by rw [c68]; exact u1, by rw [c68, u5]; exact g2, by rw [c68, ca_of u2 (by omega)], by rw [c68, u2, ne_eq, ofNat_ne_m1 (by omega)]; exact id, Or.inl ⟨r5, by rw [c68]; exact u4, g3, h70⟩⟩))))))))
end
