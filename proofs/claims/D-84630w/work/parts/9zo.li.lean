set_option maxRecDepth 100000
set_option maxHeartbeats 4000000
/-! D89: a limit is begun -/
section
variable {XI XL XR XC YI YL YA YB : List Nat} {c c' : cS} {s s' : tS} {r : Nat}
theorem uOK_g (h : CH XI XL XR XC c c') (ht : TH YI YL YA YB s s') (hS : RSt r c) (hd : (dj [1600, 1601, 1602, 1607, 1608] XI && dj [1606] XL && dj [1603, 1604, 1605, 1614, 1617] XR && dj [5901, 5903] XC && dj [25] YI && dj [36, 37, 38, 39, 40, 46] YA && dj [43] YB) = true) {k a : Nat} (ha : cCl c a = 16) (hC : uOK r c s k a)
    (hl : cI c' 1610 a = tA s' 42 k ∧ (tA s' 42 k = -1 ∨ (tA s' 36 k = 3 ∧ aok s' 42 k 11 ∧ ca s' 42 k < cnt s' 22))) : uOK r c' s' k a := by
  simp only [Bool.and_eq_true] at hd
  obtain ⟨⟨⟨⟨⟨⟨d1, d2⟩, d3⟩, d4⟩, d5⟩, d6⟩, d7⟩ := hd
  have hm := RSt_mL hS
  have hu := RSt_uL hS
  have nA : ∀ x, x ∈ [36, 37, 38, 39, 40, 46] → x ∉ YA := fun x hx => dj_not d6 hx
  have nR : ∀ x, x ∈ [1603, 1604, 1605, 1614, 1617] → cR c' x a = cR c x a := fun x hx => ch_R h ha (by decide) (dj_not d3 hx)
  have nI : ∀ x, x ∈ [1600, 1601, 1602, 1607, 1608] → cI c' x a = cI c x a := fun x hx => ch_I h ha (by decide) (dj_not d1 hx)
  have how : ow s' k = ow s k := by
    unfold ow
    rw [th_A ht (nA 36 (by simp)), th_ca ht (nA 39 (by simp)), th_ca ht (nA 46 (by simp))]
  obtain ⟨q1, q2, q3, ⟨q4, q5, q6, q7, q8, q9⟩, q10, q11, q12, _⟩ := hC
  refine ⟨?_, ?_, ?_, ⟨?_, ch_cl h q5 (by decide), ?_, ch_cl h q7 (by decide), ?_, ch_cl h q9 (by decide)⟩, ?_, ?_, ?_, hl⟩
  · rw [nI 1600 (by simp), nI 1601 (by simp), nI 1602 (by simp), th_aok ht (nA 36 (by simp)), th_A ht (nA 36 (by simp)), th_A ht (nA 38 (by simp))]; exact q1
  · rw [th_aok ht (nA 37 (by simp)), th_ca ht (nA 37 (by simp)), th_cnt ht (dj_not d5 (x := 25) (by simp)), nR 1603 (by simp), ch_lid h hm (by decide) (dj_not d4 (by simp))]; exact q2
  · rw [th_aok ht (nA 40 (by simp)), th_ca ht (nA 40 (by simp)), th_A ht (nA 40 (by simp)), th_A ht (nA 36 (by simp)), nR 1604 (by simp), ch_lid h hu (by decide) (dj_not d4 (by simp))]; exact q3
  · rw [nR 1605 (by simp)]; exact q4
  · rw [nR 1614 (by simp)]; exact q6
  · rw [nR 1617 (by simp)]; exact q8
  · rw [th_A ht (nA 36 (by simp)), ch_L h ha (by decide) (dj_not d2 (by simp)), th_B ht (dj_not d7 (by simp))]; exact q10
  · rw [th_aok ht (nA 39 (by simp)), nI 1607 (by simp), th_A ht (nA 39 (by simp))]; exact q11
  · rw [th_aok ht (nA 46 (by simp)), nI 1608 (by simp), how]; exact q12
end
/-- a limit's object -/
def liC (c : cS) : cS := csR (nlC (nwC c 23) 7300 2) 2300 (cNx c) (.ref (cNx c + 1))
theorem c_li (d : Nat) {c : cS} : cC (d + 11) 2301 [eR (.ref (cNx c))] (nwC c 23) = some (.inl none, liC c) := by
  have h1 : cCl (nwC c 23) (cNx c) = 23 := nw_cl c 23
  have e22 : cC (d + 10) 2201 [eR (.ref (cNx c))] (nwC c 23) = some (.inl none, nwC c 23) := by
    rw [kX22_init, uX22_init]
    simp only [pP, h1, rC, bB, Nat.reduceDiv, Nat.reduceLeDiff, Nat.reduceLT,  eq_self, if_true, if_false, true_and, and_true, false_and, and_false, or_true, true_or, or_false, false_or, reduceIte, reduceCtorEq, Nat.reduceEqDiff, not_true_eq_false, not_false_eq_true, r_misN, r_misR, gC]
  rw [kX23_init, r_cck, if_pos h1, uX23_init, e22, b_V, show (2 : Int32) = Int32.ofNat 2 from rfl, show d + 10 = (d + 1) + 9 from rfl, c_nl2 (k := 7300) (m := 2) (d + 1) rfl (by decide) (by decide) (by decide)]
  have k1 : cCl (nlC (nwC c 23) 7300 2) (cNx c) = 23 := (nl_old (by show cNx c ≠ cNx c + 1; omega)).trans h1
  exact kpR 2300 (cNx c) (.ref (cNx c + 1)) .null _ k1 rfl
section
variable {χ : Nat → Int32} {n t r p f : Nat} {vo : Nat → Nat} {Op Oa Ou : Nat → Prop} {E O : Nat} {c : cS} {s : tS}
/-- the reference's limit -/
def liT (s : tS) (u l : Nat) : tS := tsA (tsI (tsA s 42 u (Int32.ofNat l)) 22 (Int32.ofNat (l + 1))) 23 (8 + l) 0
theorem li_th (s : tS) (u l : Nat) : TH [22] [] [42, 23] [] s (liT s u l) := TH_A (by simp) (TH_I (by simp) (TH_A (by simp) (TH_refl _ _ _ _ s)))
theorem P_lim (d : Nat) {u : Nat} (h : RP χ n t r p f vo Op Oa Ou E O c s) (hu : u < cnt s 35) (h36 : tA s 36 u = 3) (h42 : tA s 42 u = -1) (hlt : cnt s 22 < 12) :
    ∃ c', (∀ K : cS → cRes, (cnw c 23 fun v3 h4 => bV (cC (d + 11) 2301 [eR v3] h4) fun h5 => cpR h5 1609 (.ref (lid c (r + 8) u)) v3 fun h6 => cgR h6 801 (.ref r) fun v7 => cgR h6 904 v7 fun v8 => bI (cC (d + 11) 9103 [eR v8] h6) fun v10 h9 => cpI h9 1610 (.ref (lid c (r + 8) u)) v10 fun h11 => cgR h11 801 (.ref r) fun v12 => cgR h11 904 v12 fun v13 => cgR h11 1609 (.ref (lid c (r + 8) u)) fun v14 => bI (cC (d + 11) 9105 [eR v13, eR v14] h11) fun _ h15 => K h15) = K c') ∧
      RP χ n t r p f vo Op Oa Ou E O c' (liT s u (cnt s 22)) ∧ KC r c c' ∧ KT s (liT s u (cnt s 22)) ∧ (∀ b, raw c b → raw c' b) ∧ cNx c' ≤ cNx c + 4 ∧ cSl c' ≤ cSl c + 60 ∧ cR c' 1609 (lid c (r + 8) u) = .ref (lid c' (r + 9) (cnt s 22)) ∧ (∃ L, cR c' 2300 (lid c' (r + 9) (cnt s 22)) = .ref L ∧ (∀ k, k < cnt s 22 → cR c' 2300 (lid c' (r + 9) k) ≠ .ref L) ∧ (∀ b, cCl c b ≠ 0 → b ≠ r + 9 → cLs c' b = cLs c b)) := by
  have hn := h.2.2.1
  have h0 := h
  have ha0 : cCl c (cNx c) = 0 := (hn _ (Nat.le_refl _)).1
  have ha1 : cCl c (cNx c + 1) = 0 := (hn _ (by omega)).1
  have hnw : cmore (csCl c (cNx c) 23) (csz 23) = nwC c 23 := rfl
  have e1 := c_li d (c := c)
  have hfr : FR c (liC c) := FR_R ha0 (FR_nl ha1 (FR_nw ha0 (FR_refl c)))
  have hnf : NF c (liC c) := NF_R (NF_nl (by decide) (NF_nw (k := 23) (by decide) (NF_refl c)))
  have hcl1 : CLN (liC c) := cC_cln e1 (CLN_new hn)
  have hR1 := RP_FR hfr hnf hcl1 h
  have hRR := hR1
  have g1 : cCl (liC c) (cNx c) = 23 := by simp [liC, nlC, nwC, gC]
  have g2 : cCl (liC c) (cNx c + 1) = 7300 := by simp [liC, nlC, nwC, gC]
  have g3 : cR (liC c) 2300 (cNx c) = .ref (cNx c + 1) := by simp [liC, gC]
  have g4 : cLs (liC c) (cNx c + 1) = [] := by
    show cLs c (cNx c + 1) = []
    exact (hn _ (by omega)).2.2.2.1
  have g5 : cNx (liC c) = cNx c + 3 := rfl
  have g6 : cSl (liC c) = cSl c + csz 23 + csz 12300 + 2 := rfl
  obtain ⟨hL, hfi, _, hQ, hN, hOu, hOp, hOa, hOu2⟩ := hR1
  obtain ⟨hS, hC, hG, hLm, hM, hU, hV, hI, hF, hA, hB⟩ := hQ
  have hlid : lid (liC c) (r + 8) u = lid c (r + 8) u := by unfold lid; rw [(hfr.2.2 (r + 8) (by rw [RSt_uL h0.2.2.2.1.1]; decide)).2.2.1]
  have hcu := (RUt_cap hU hu).2.2.2
  have hlen := hLm.2.1.1
  have h12 := hLm.1.2
  have hKC1 := FR_kc hfr hnf h0.2.2.2.1.1
  have hlen0 := RP_len h0
  have hlen1 := hU.2.1.1
  have hraw1 := FR_raw hfr hnf
  have hls1 : ∀ b, cCl c b ≠ 0 → cLs (liC c) b = cLs c b := fun b hb => (hfr.2.2 b hb).2.2.1
  have hlnew : ∀ k L, k < cnt s 22 → cR (liC c) 2300 (lid (liC c) (r + 9) k) = .ref L → L < cNx c := by
    intro k L hk e
    obtain ⟨L2, y1, y2⟩ := h0.2.2.2.1.2.2.2.1.2.2 k hk
    have k1 : lid (liC c) (r + 9) k = lid c (r + 9) k := by unfold lid; rw [(hfr.2.2 (r + 9) (by rw [RSt_lL h0.2.2.2.1.1]; decide)).2.2.1]
    have k2 := (h0.2.2.2.1.2.2.2.1.2.1.2 k hk).2
    rw [k1, (hfr.2.2 _ (by rw [k2]; decide)).2.2.2.2.2.1, y1] at e
    obtain rfl := Value.ref.inj e
    exact CLN_lt hn (by rw [y2.1]; decide)
  rw [← hlid] at *
  generalize liC c = c1 at *
  generalize hlu : lid c1 (r + 8) u = lu at *
  have hch2 : CH [1610] [] [1609] [] c1 (csR c1 1609 lu (.ref (cNx c))) := CH_R (Or.inl (by simp)) (CH_refl _ _ _ _ c1)
  have hS2 := RSt_fr hch2 (by decide) hS
  have hl2 : (cLs (csR c1 1609 lu (.ref (cNx c))) (r + 9)).length = cnt s 22 := hlen
  have hch3 : CH [1610] [] [1609] [] c1 (csI (csR c1 1609 lu (.ref (cNx c))) 1610 lu (Int32.ofNat (cnt s 22))) := CH_I (Or.inl (by simp)) hch2
  have hS3 := RSt_fr hch3 (by decide) hS
  have e16 : cR (csI (csR c1 1609 lu (.ref (cNx c))) 1610 lu (Int32.ofNat (cnt s 22))) 1609 lu = .ref (cNx c) := by simp [gC]
  obtain ⟨c', e2, hLA⟩ := c_add (d + 2) (RSt_lL hS3) rfl (by show (cLs c1 (r + 9)).length < _; rw [hlen]; omega) (.ref (cNx c))
  have hrun : ∀ K : cS → cRes, (cnw c 23 fun v3 h4 => bV (cC (d + 11) 2301 [eR v3] h4) fun h5 => cpR h5 1609 (.ref lu) v3 fun h6 => cgR h6 801 (.ref r) fun v7 => cgR h6 904 v7 fun v8 => bI (cC (d + 11) 9103 [eR v8] h6) fun v10 h9 => cpI h9 1610 (.ref lu) v10 fun h11 => cgR h11 801 (.ref r) fun v12 => cgR h11 904 v12 fun v13 => cgR h11 1609 (.ref lu) fun v14 => bI (cC (d + 11) 9105 [eR v13, eR v14] h11) fun _ h15 => K h15) = K c' := fun K => by
    rw [r_cnw, hnw, e1, b_V, kpR 1609 lu (.ref (cNx c)) .null _ hcu rfl]
    rw [r_cgR, if_pos hS2.1, hS2.2.2.1, r_cgR, if_pos hS2.2.2.2.2.1, hS2.2.2.2.2.2.1.2.2.2.2.1, c_len (d + 2) (RSt_lL hS2) rfl, b_I, kpI 1610 lu _ _ (show cCl (csR c1 1609 lu (.ref (cNx c))) lu = _ from hcu)]
    rw [hl2]
    rw [r_cgR, if_pos hS3.1, hS3.2.2.1, r_cgR, if_pos hS3.2.2.2.2.1, hS3.2.2.2.2.2.1.2.2.2.2.1, r_cgR, if_pos (show cCl (csI (csR c1 1609 lu (.ref (cNx c))) 1610 lu (Int32.ofNat (cnt s 22))) lu = _ from hcu)]
    rw [e16, e2, b_I]
  have hch45 := LA_ch hLA (RSt_lL hS3)
  have hch : CH [1610] [] [1609] [5904] c1 c' := CH_trans (by decide) (CH_c1 hch3) (CH_c2 hch45)
  have hth := li_th s u (cnt s 22)
  obtain ⟨⟨x1, x2, x3, x4⟩, ⟨i1, i2, i3, i4, i5, i6, i7⟩, i8, i9⟩ := id hLA
  have hcl' : CLN c' := cC_cln e2 (CLN_I (by show cCl c1 lu = _; rw [hcu]) (CLN_R (by rw [hcu]) hcl1))
  have lN : nthD .null (cLs c' (r + 9)) (cnt s 22) = .ref (cNx c) := by
    rw [i8]; show nthD .null ((cLs c1 (r + 9)) ++ _) _ = _
    rw [← hlen]; exact lst_end _ _
  have lo : ∀ k, k < cnt s 22 → nthD .null (cLs c' (r + 9)) k = nthD .null (cLs c1 (r + 9)) k := fun k hk => by
    rw [i8]; show nthD .null ((cLs c1 (r + 9)) ++ _) _ = _
    exact lst_lt _ _ _ (by rw [hlen]; exact hk)
  have n23 : cR c' 2300 (cNx c) = .ref (cNx c + 1) := by
    rw [i3]; simp only [gC]; exact g3
  have o23 : ∀ k, k < cnt s 22 → cR c' 2300 (lid c' (r + 9) k) = cR c1 2300 (lid c1 (r + 9) k) := fun k hk => by
    rw [lid_eq (lo k hk), i3]; simp [gC]
  have n42 : tA (liT s u (cnt s 22)) 42 u = Int32.ofNat (cnt s 22) := by simp [liT, gT]
  have o42 : ∀ k, k ≠ u → tA (liT s u (cnt s 22)) 42 k = tA s 42 k := fun k hk => by simp [liT, gT, hk]
  have n22 : tI (liT s u (cnt s 22)) 22 = Int32.ofNat (cnt s 22 + 1) := by simp [liT, gT]
  have c22 := cnt_of n22 (by omega)
  have m23 : tA (liT s u (cnt s 22)) 23 (8 + cnt s 22) = 0 := by simp [liT, gT]
  have k23 : ∀ k, k ≠ 8 + cnt s 22 → tA (liT s u (cnt s 22)) 23 k = tA s 23 k := fun k hk => by simp [liT, gT, hk]
  have hsl : cSl c1 ≤ cSl c' := x3
  have hKC2 : KC r c1 c' := KC_of hch hS hsl (by decide)
  have hKT : KT s (liT s u (cnt s 22)) := by
    refine ⟨fun x hx => by rw [th_cnt hth (by simp only [List.mem_cons, List.not_mem_nil, or_false] at hx ⊢; omega)]; exact Nat.le_refl _, fun k hk => ⟨th_A hth (by decide) k, fun q => o42 k (by rintro rfl; exact q h42), th_A hth (by decide) k, by rw [th_ca hth (by decide)]; exact Nat.le_refl _, fun i _ => th_A hth (by decide) _⟩, fun v _ => ⟨th_A hth (by decide) v, vI_fr hth (by decide) v, th_A hth (by decide) v, th_B hth (by decide) v⟩, fun k _ => th_B hth (by decide) k, fun k _ => th_A hth (by decide) k⟩
  have pq : ∀ q, pU s (liT s u (cnt s 22)) q := fun q => ⟨th_A hth (by decide) q, th_A hth (by decide) q, fun i _ => th_B hth (by decide) _⟩
  have hl8 : ∀ k, lid c' (r + 8) k = lid c1 (r + 8) k := fun k => ch_lid hch (RSt_uL hS) (by decide) (by decide) k
  refine ⟨c', hrun, ⟨LX_ch hch hth (by rw [i4]; rfl) (by rw [i5]; rfl) (by decide) hL, by rw [th_I hth (by decide)]; exact hfi, hcl', ⟨RSt_fr hch (by decide) hS, RCt_fr hch hth hS (by decide) hC, RGt_ix hch hth hS (by decide) (fun q _ _ => pq q) (fun k hk => k23 k (by omega)) (fun j _ => th_B hth (by decide) j) hG, ⟨cok_of n22 (by omega) (by omega), ?_, fun k hk => ?_⟩, RMt_fr hch hth hS (by decide) (by decide) hM, ⟨?_, ?_, fun k hk => ?_⟩, RVt_fr hch hth hS hU (by decide) hV, RIt_fr hch hth hS hV (by decide) hI, RFt_fr hch hth hS hU (by decide) hF, RAt_fr hch hth hS (by decide) hA, RBt_mono hKC2 hKT hU.2.1.1 (fun v hv => (hV.2.1 v hv).2.2.1) (th_cnt hth (by decide)) (by rw [th_cnt hth (by decide)]; exact Nat.le_refl _) (fun k hk _ => ch_R hch (RUt_cap hU hk).2.2.2 (by decide) (by decide)) (fun k _ _ => th_A hth (by decide) k) (fun y _ _ z hz => th_A hth (by simp only [List.mem_cons, List.not_mem_nil, or_false] at hz ⊢; omega) y) hB⟩, RNt_fr hth (by decide) hN, ?_, ?_, ?_, ?_⟩, KC_trans (by rw [hlen0, hlen1]; exact Nat.le_refl _) hKC1 hKC2, hKT, fun b q => LA_raw hLA (RSt_lL hS3) (by decide) b (raw_I (raw_W hraw1) b q), ?_, ?_, ?_, cNx c + 1, ?_, fun k hk q => ?_, fun b hb hne => (i9 b hne).trans (hls1 b hb)⟩
  · rw [c22]
    refine ⟨by rw [i8]; show ((cLs c1 (r + 9)) ++ _).length = _; rw [List.length_append, hlen]; rfl, fun k hk => ?_⟩
    by_cases e : k = cnt s 22
    · rw [e, lid_at lN, lN, i6]; exact ⟨rfl, g1⟩
    · rw [lid_eq (lo k (by omega)), lo k (by omega), i6]
      exact hLm.2.1.2 k (by omega)
  · rw [c22] at hk
    by_cases e : k = cnt s 22
    · rw [e, lid_at lN, n23]
      refine ⟨_, rfl, by rw [i6]; exact g2, aok_of (k := 0) m23 (by decide) (by decide), ?_, fun i hi => ?_⟩
      · rw [show ca (liT s u (cnt s 22)) 23 (8 + cnt s 22) = 0 from ca_of (k := 0) m23 (by decide)]
        refine ⟨?_, fun i hi => absurd hi (Nat.not_lt_zero _)⟩
        rw [i9 _ (fun z => by have := RSt_lL hS; rw [← z, g2] at this; exact absurd this (by decide))]
        show (cLs c1 (cNx c + 1)).length = 0
        rw [g4]; rfl
      · rw [show ca (liT s u (cnt s 22)) 23 (8 + cnt s 22) = 0 from ca_of (k := 0) m23 (by decide)] at hi
        exact absurd hi (Nat.not_lt_zero _)
    · obtain ⟨L2, y1, y2⟩ := hLm.2.2 k (by omega)
      rw [o23 k (by omega)]
      exact ⟨L2, y1, rOK_ix hch (by decide) (by decide) (by decide) (by decide) (by decide) (k23 _ (by omega)) (fun i _ => th_B hth (by decide) _) (fun i _ => pq _) y2⟩
  · rw [th_cok hth (by decide)]; exact hU.1
  · rw [th_cnt hth (by decide)]; exact lsr_fr hch (RSt_uL hS) (by decide) (by decide) (by decide) hU.2.1
  · rw [th_cnt hth (by decide)] at hk
    rw [hl8 k]
    refine uOK_g hch hth hS (by decide) (RUt_cap hU hk).2.2.2 (hU.2.2 k hk) ?_
    rw [i1, c22]
    by_cases e : k = u
    · rw [e, hlu, n42]
      refine ⟨by simp [gC], Or.inr ⟨by rw [th_A hth (by decide)]; exact h36, aok_of n42 (by omega) (by omega), by rw [ca_of n42 (by omega)]; omega⟩⟩
    · obtain ⟨_, _, _, _, _, _, _, w1, w2⟩ := hU.2.2 k hk
      have hne : lid c1 (r + 8) k ≠ lu := fun z => e (u_inj hRR hk hu (z.trans hlu.symm))
      rw [g_I_I, if_neg (fun z => hne z.2), o42 k e, th_A hth (by decide), aok_eq (o42 k e), ca_eq (o42 k e)]
      refine ⟨w1, ?_⟩
      rcases w2 with w2 | ⟨w3, w4, w5⟩
      · left; exact w2
      · right; exact ⟨w3, w4, by omega⟩
  · rw [th_cnt hth (by decide)]; exact hOu
  · intro y hy
    rw [th_ca hth (by decide), th_cnt hth (by decide)]; exact hOp y hy
  · intro k hk; rw [th_cnt hth (by decide)]; exact hOa k hk
  · intro k hk; rw [th_cnt hth (by decide)]; exact hOu2 k hk
  · have : cNx (csI (csR c1 1609 lu (.ref (cNx c))) 1610 lu (Int32.ofNat (cnt s 22))) = cNx c1 := rfl
    omega
  · have k1 : cSl (csI (csR c1 1609 lu (.ref (cNx c))) 1610 lu (Int32.ofNat (cnt s 22))) = cSl c1 := rfl
    have k2 : (cLs (csI (csR c1 1609 lu (.ref (cNx c))) 1610 lu (Int32.ofNat (cnt s 22))) (r + 9)).length = cnt s 22 := hlen
    have k3 : csz 23 + csz 12300 ≤ 12 := by decide
    omega
  · rw [lid_at lN, i3]; exact e16
  · rw [lid_at lN]; exact n23
  · rw [o23 k hk] at q
    have h9 : cNx c + 1 < cNx c := hlnew k (cNx c + 1) hk q
    exact absurd h9 (by omega)
end
