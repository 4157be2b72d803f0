set_option maxRecDepth 100000
set_option maxHeartbeats 1000000
/-! D16: what is not touched stays as it was -/
section
variable {XI XL XR XC YI YL YA YB : List Nat} {c c' : cS} {s s' : tS} {r : Nat}
theorem RSt_fr (h : CH XI XL XR XC c c') (hd : dj [800, 801, 805, 900, 901, 902, 903, 904, 905, 906, 907] XR = true) (hS : RSt r c) : RSt r c' := by
  obtain ⟨s1, s2, s3, s4, s5, ⟨a1, a2, a3, a4, a5, a6, a7, a8⟩, b1, b2, b3, b4, b5, b6, b7, b8, b9⟩ := hS
  have e : ∀ x a k, cCl c a = k → okc k = true → x ∈ [800, 801, 805, 900, 901, 902, 903, 904, 905, 906, 907] → cR c' x a = cR c x a := fun x a k q1 q2 q3 => ch_R h q1 q2 (dj_not hd q3)
  refine ⟨ch_cl h s1 (by decide), ?_, ?_, ?_, ch_cl h s5 (by decide), ⟨?_, ?_, ?_, ?_, ?_, ?_, ?_, ?_⟩, ch_cl h b1 (by decide), ch_cl h b2 (by decide), ch_cl h b3 (by decide), ch_cl h b4 (by decide), ch_cl h b5 (by decide), ch_cl h b6 (by decide), ch_cl h b7 (by decide), ch_cl h b8 (by decide), ch_cl h b9.1 (by decide), h.2.2.2.2.2.2.2 b9.2⟩
  · rw [e _ _ _ s1 (by decide) (by simp)]; exact s2
  · rw [e _ _ _ s1 (by decide) (by simp)]; exact s3
  · rw [e _ _ _ s1 (by decide) (by simp)]; exact s4
  · rw [e _ _ _ s5 (by decide) (by simp)]; exact a1
  · rw [e _ _ _ s5 (by decide) (by simp)]; exact a2
  · rw [e _ _ _ s5 (by decide) (by simp)]; exact a3
  · rw [e _ _ _ s5 (by decide) (by simp)]; exact a4
  · rw [e _ _ _ s5 (by decide) (by simp)]; exact a5
  · rw [e _ _ _ s5 (by decide) (by simp)]; exact a6
  · rw [e _ _ _ s5 (by decide) (by simp)]; exact a7
  · rw [e _ _ _ s5 (by decide) (by simp)]; exact a8
theorem RSt_mL (hS : RSt r c) : cCl c (r + 4) = 5901 := by obtain ⟨s1, s2, s3, s4, s5, ⟨a1, a2, a3, a4, a5, a6, a7, a8⟩, b1, b2, b3, b4, b5, b6, b7, b8, b9⟩ := hS; exact b2
theorem RSt_uL (hS : RSt r c) : cCl c (r + 8) = 5903 := by obtain ⟨s1, s2, s3, s4, s5, ⟨a1, a2, a3, a4, a5, a6, a7, a8⟩, b1, b2, b3, b4, b5, b6, b7, b8, b9⟩ := hS; exact b4
theorem RSt_gL (hS : RSt r c) : cCl c (r + 2) = 5900 := by obtain ⟨s1, s2, s3, s4, s5, ⟨a1, a2, a3, a4, a5, a6, a7, a8⟩, b1, b2, b3, b4, b5, b6, b7, b8, b9⟩ := hS; exact b1
theorem RSt_lL (hS : RSt r c) : cCl c (r + 9) = 5904 := by obtain ⟨s1, s2, s3, s4, s5, ⟨a1, a2, a3, a4, a5, a6, a7, a8⟩, b1, b2, b3, b4, b5, b6, b7, b8, b9⟩ := hS; exact b5
theorem RSt_aL (hS : RSt r c) : cCl c (r + 11) = 5905 := by obtain ⟨s1, s2, s3, s4, s5, ⟨a1, a2, a3, a4, a5, a6, a7, a8⟩, b1, b2, b3, b4, b5, b6, b7, b8, b9⟩ := hS; exact b6
theorem RSt_nL (hS : RSt r c) : cCl c (r + 13) = 5906 := by obtain ⟨s1, s2, s3, s4, s5, ⟨a1, a2, a3, a4, a5, a6, a7, a8⟩, b1, b2, b3, b4, b5, b6, b7, b8, b9⟩ := hS; exact b7
theorem RSt_naL (hS : RSt r c) : cCl c (r + 14) = 5907 := by obtain ⟨s1, s2, s3, s4, s5, ⟨a1, a2, a3, a4, a5, a6, a7, a8⟩, b1, b2, b3, b4, b5, b6, b7, b8, b9⟩ := hS; exact b8
theorem RSt_vL (hS : RSt r c) : cCl c (r + 15) = 5805 := by obtain ⟨s1, s2, s3, s4, s5, ⟨a1, a2, a3, a4, a5, a6, a7, a8⟩, b1, b2, b3, b4, b5, b6, b7, b8, b9⟩ := hS; exact b9.1
theorem RCt_fr (h : CH XI XL XR XC c c') (ht : TH YI YL YA YB s s') (hS : RSt r c) (hd : (dj [806, 908] XI && dj [5906, 5907] XC && dj [58, 60, 62, 63, 65] YI && dj [59] YA && dj [61] YB) = true) (hC : RCt r c s) : RCt r c' s' := by
  simp only [Bool.and_eq_true] at hd
  obtain ⟨⟨⟨⟨d1, d2⟩, d3⟩, d4⟩, d5⟩ := hd
  have hcl := hS.1
  have hp := hS.2.2.2.2.1
  unfold RCt at hC ⊢
  rw [th_cok ht (dj_not d3 (by simp)), th_cok ht (dj_not d3 (by simp)), th_cok ht (dj_not d3 (by simp)), th_cok ht (dj_not d3 (by simp)), th_cok ht (dj_not d3 (by simp)), th_I ht (dj_not d3 (x := 62) (by simp)), th_I ht (dj_not d3 (x := 63) (by simp)), ch_I h hp (by decide) (dj_not d1 (by simp)), ch_I h hcl (by decide) (dj_not d1 (by simp)),
    th_cnt ht (dj_not d3 (x := 58) (by simp)), th_cnt ht (dj_not d3 (x := 60) (by simp)), th_cnt ht (dj_not d3 (x := 62) (by simp)), th_cnt ht (dj_not d3 (x := 65) (by simp)), ch_Ls h (RSt_nL hS) (by decide) (dj_not d2 (by simp)), ch_Ls h (RSt_naL hS) (by decide) (dj_not d2 (by simp))]
  obtain ⟨q1, q2, ⟨q3, q4, q5, q6⟩, ⟨q7, q8, q9, q10⟩, q11⟩ := hC
  refine ⟨q1, q2, ⟨q3, q4, q5, fun k hk => ?_⟩, ⟨q7, q8, q9, fun k hk => ?_⟩, q11⟩
  · rw [th_A ht (dj_not d4 (by simp))]; exact q6 k hk
  · rw [th_B ht (dj_not d5 (by simp))]; exact q10 k hk
theorem RGt_fr (h : CH XI XL XR XC c c') (ht : TH YI YL YA YB s s') (hS : RSt r c) (hd : (dj [1201] XI && dj [1200, 1300, 1301, 1401] XR && dj [1400] XL && dj [5900, 6301] XC && dj [20] YI && dj [18, 19, 23] YA && dj [17, 24] YB) = true) (hC : RGt r c s) : RGt r c' s' := by
  simp only [Bool.and_eq_true] at hd
  obtain ⟨⟨⟨⟨⟨⟨d1, d2⟩, d3⟩, d4⟩, d5⟩, d6⟩, d7⟩ := hd
  have hg := RSt_gL hS
  have d2a : dj [1200] XR = true := by unfold dj at d2 ⊢; simp_all
  have d2b : dj [1200, 1401] XR = true := by unfold dj at d2 ⊢; simp_all
  have d6a : dj [18, 19] YA = true := by unfold dj at d6 ⊢; simp_all
  have d7a : dj [17] YB = true := by unfold dj at d7 ⊢; simp_all
  obtain ⟨q1, q2, q3⟩ := hC
  unfold RGt
  rw [th_cok ht (dj_not d5 (by simp)), th_cnt ht (dj_not d5 (by simp))]
  refine ⟨q1, lsr_fr h hg (by decide) (dj_not d4 (by simp)) (by decide) q2, fun k hk => ?_⟩
  have hc := (q2.2 k hk).2
  obtain ⟨P, L, r1, r2, r3, r4⟩ := q3 k hk
  rw [ch_lid h hg (by decide) (dj_not d4 (by simp)), ch_R h hc (by decide) (dj_not d2 (by simp)), ch_R h hc (by decide) (dj_not d2 (by simp))]
  exact ⟨P, L, r1, pOK_fr h ht d1 d2a d6a d7a r2, r3, rOK_fr h ht d1 d2b d6 d7 d3 (by decide) (dj_not d4 (by simp)) r4⟩
theorem RLt_fr (h : CH XI XL XR XC c c') (ht : TH YI YL YA YB s s') (hS : RSt r c) (hd : (dj [1201] XI && dj [1200, 2300, 1401] XR && dj [1400] XL && dj [5904, 7300] XC && dj [22] YI && dj [18, 19, 23] YA && dj [17, 24] YB) = true) (hC : RLt r c s) : RLt r c' s' := by
  simp only [Bool.and_eq_true] at hd
  obtain ⟨⟨⟨⟨⟨⟨d1, d2⟩, d3⟩, d4⟩, d5⟩, d6⟩, d7⟩ := hd
  have hg := RSt_lL hS
  have d2b : dj [1200, 1401] XR = true := by unfold dj at d2 ⊢; simp_all
  obtain ⟨q1, q2, q3⟩ := hC
  unfold RLt
  rw [th_cok ht (dj_not d5 (by simp)), th_cnt ht (dj_not d5 (by simp))]
  refine ⟨q1, lsr_fr h hg (by decide) (dj_not d4 (by simp)) (by decide) q2, fun k hk => ?_⟩
  have hc := (q2.2 k hk).2
  obtain ⟨L, r3, r4⟩ := q3 k hk
  rw [ch_lid h hg (by decide) (dj_not d4 (by simp)), ch_R h hc (by decide) (dj_not d2 (by simp))]
  exact ⟨L, r3, rOK_fr h ht d1 d2b d6 d7 d3 (by decide) (dj_not d4 (by simp)) r4⟩
theorem fAb_fr (ht : TH YI YL YA YB s s') (hd : dj [27, 28] YA = true) : ∀ g k, fAb s' g k = fAb s g k := by
  intro g
  induction g with
  | zero => intro k; rfl
  | succ g ih =>
    intro k
    unfold fAb
    rw [th_A ht (dj_not hd (by simp)), th_ca ht (dj_not hd (x := 27) (by simp)), th_ca ht (dj_not hd (x := 28) (by simp)), ih]
theorem mOK_fr (h : CH XI XL XR XC c c') (ht : TH YI YL YA YB s s') (hS : RSt r c) (hd : (dj [1201, 1500, 1506] XI && dj [1501] XL && dj [1200, 1502, 1503, 1505, 1507] XR && dj [5901, 5903, 6505, 6507] XC && dj [35] YI && dj [18, 19, 27, 28, 30, 31, 36] YA && dj [17, 26, 29] YB) = true) {k a x : Nat} (ha : cCl c a = 15) (hC : mOK r c s k a x) : mOK r c' s' k a x := by
  simp only [Bool.and_eq_true] at hd
  obtain ⟨⟨⟨⟨⟨⟨d1, d2⟩, d3⟩, d4⟩, d5⟩, d6⟩, d7⟩ := hd
  have hm := RSt_mL hS
  have hu := RSt_uL hS
  have d1a : dj [1201] XI = true := by unfold dj at d1 ⊢; simp_all
  have d3a : dj [1200] XR = true := by unfold dj at d3 ⊢; simp_all
  have d6a : dj [18, 19] YA = true := by unfold dj at d6 ⊢; simp_all
  have d6b : dj [27, 28] YA = true := by unfold dj at d6 ⊢; simp_all
  have d7a : dj [17] YB = true := by unfold dj at d7 ⊢; simp_all
  obtain ⟨q1, q2, ⟨P, q3, q4, q5⟩, q6, ⟨q7, q8, q9, q10, q11⟩, q12, ⟨q13, q14, q15, q16, q17⟩⟩ := hC
  have nA : ∀ x, x ∈ [18, 19, 27, 28, 30, 31, 36] → x ∉ YA := fun x hx => dj_not d6 hx
  have nR : ∀ x, x ∈ [1200, 1502, 1503, 1505, 1507] → cR c' x a = cR c x a := fun x hx => ch_R h ha (by decide) (dj_not d3 hx)
  unfold mOK
  rw [ch_I h ha (by decide) (dj_not d1 (x := 1500) (by simp)), ch_I h ha (by decide) (dj_not d1 (x := 1506) (by simp)), ch_L h ha (by decide) (dj_not d2 (by simp)), nR 1502 (by simp), nR 1503 (by simp), nR 1505 (by simp), nR 1507 (by simp), th_B ht (dj_not d7 (x := 26) (by simp)), th_A ht (nA 27 (by simp)), fAb_fr ht d6b, th_aok ht (nA 28 (by simp)), th_aok ht (nA 30 (by simp)), th_ca ht (nA 28 (by simp)), th_ca ht (nA 30 (by simp)), ch_Ls h q8 (by decide) (dj_not d4 (by simp)), ch_Ls h q14 (by decide) (dj_not d4 (by simp)), th_cnt ht (dj_not d5 (by simp))]
  refine ⟨q1, q2, ⟨P, q3, pOK_fr h ht d1a d3a d6a d7a q4, by rw [th_A ht (nA 19 (by simp))]; exact q5⟩, ?_, ⟨q7, ch_cl h q8 (by decide), q9, q10, fun i hi => ?_⟩, q12, ⟨q13, ch_cl h q14 (by decide), q15, q16, fun i hi => ?_⟩⟩
  · rcases q6 with q6 | ⟨j, j1, j2, j3⟩
    · left; exact q6
    · right; exact ⟨j, j1, j2, by rw [ch_lid h hm (by decide) (dj_not d4 (by simp))]; exact j3⟩
  · rw [th_B ht (dj_not d7 (by simp))]; exact q11 i hi
  · rw [th_aok ht (nA 31 (by simp)), th_ca ht (nA 31 (by simp)), th_A ht (nA 36 (by simp)), ch_lid h hu (by decide) (dj_not d4 (by simp))]
    exact q17 i hi
theorem RMt_fr (h : CH XI XL XR XC c c') (ht : TH YI YL YA YB s s') (hS : RSt r c) (hd : (dj [1201, 1500, 1506] XI && dj [1501] XL && dj [1200, 1502, 1503, 1505, 1507] XR && dj [5901, 5903, 6505, 6507] XC && dj [35] YI && dj [18, 19, 27, 28, 30, 31, 36] YA && dj [17, 26, 29] YB) = true) (hy : 25 ∉ YI) {x : Nat} (hC : RMt r x c s) : RMt r x c' s' := by
  have hd0 := hd
  simp only [Bool.and_eq_true] at hd
  obtain ⟨⟨⟨⟨⟨⟨d1, d2⟩, d3⟩, d4⟩, d5⟩, d6⟩, d7⟩ := hd
  have hm := RSt_mL hS
  obtain ⟨q1, q2, q3⟩ := hC
  unfold RMt
  rw [th_cok ht hy, th_cnt ht hy]
  refine ⟨q1, lsr_fr h hm (by decide) (dj_not d4 (by simp)) (by decide) q2, fun k hk => ?_⟩
  rw [ch_lid h hm (by decide) (dj_not d4 (by simp))]
  exact mOK_fr h ht hS hd0 (q2.2 k hk).2 (q3 k hk)
theorem uOK_fr (h : CH XI XL XR XC c c') (ht : TH YI YL YA YB s s') (hS : RSt r c) (hd : (dj [1600, 1601, 1602, 1607, 1608, 1610] XI && dj [1606] XL && dj [1603, 1604, 1605, 1614, 1617] XR && dj [5901, 5903] XC && dj [22, 25] YI && dj [36, 37, 38, 39, 40, 42, 46] YA && dj [43] YB) = true) {k a : Nat} (ha : cCl c a = 16) (hC : uOK r c s k a) : uOK r c' s' k a := by
  simp only [Bool.and_eq_true] at hd
  obtain ⟨⟨⟨⟨⟨⟨d1, d2⟩, d3⟩, d4⟩, d5⟩, d6⟩, d7⟩ := hd
  have hm := RSt_mL hS
  have hu := RSt_uL hS
  have nA : ∀ x, x ∈ [36, 37, 38, 39, 40, 42, 46] → x ∉ YA := fun x hx => dj_not d6 hx
  have nR : ∀ x, x ∈ [1603, 1604, 1605, 1614, 1617] → cR c' x a = cR c x a := fun x hx => ch_R h ha (by decide) (dj_not d3 hx)
  have nI : ∀ x, x ∈ [1600, 1601, 1602, 1607, 1608, 1610] → cI c' x a = cI c x a := fun x hx => ch_I h ha (by decide) (dj_not d1 hx)
  have how : ow s' k = ow s k := by
    unfold ow
    rw [th_A ht (nA 36 (by simp)), th_ca ht (nA 39 (by simp)), th_ca ht (nA 46 (by simp))]
  unfold uOK at hC ⊢
  rw [how, nI 1600 (by simp), nI 1601 (by simp), nI 1602 (by simp), nI 1607 (by simp), nI 1608 (by simp), nI 1610 (by simp), nR 1603 (by simp), nR 1604 (by simp), nR 1605 (by simp), nR 1614 (by simp), nR 1617 (by simp), ch_L h ha (by decide) (dj_not d2 (by simp)), th_B ht (dj_not d7 (by simp)),
    th_aok ht (nA 36 (by simp)), th_aok ht (nA 37 (by simp)), th_aok ht (nA 39 (by simp)), th_aok ht (nA 40 (by simp)), th_aok ht (nA 42 (by simp)), th_aok ht (nA 46 (by simp)), th_A ht (nA 36 (by simp)), th_A ht (nA 38 (by simp)), th_A ht (nA 39 (by simp)), th_A ht (nA 40 (by simp)), th_A ht (nA 42 (by simp)), th_ca ht (nA 37 (by simp)), th_ca ht (nA 40 (by simp)), th_ca ht (nA 42 (by simp)), th_cnt ht (dj_not d5 (x := 22) (by simp)), th_cnt ht (dj_not d5 (x := 25) (by simp)), ch_lid h hm (by decide) (dj_not d4 (by simp)), ch_lid h hu (by decide) (dj_not d4 (by simp))]
  obtain ⟨q1, q2, q3, ⟨q4, q5, q6, q7, q8, q9⟩, q10⟩ := hC
  exact ⟨q1, q2, q3, ⟨q4, ch_cl h q5 (by decide), q6, ch_cl h q7 (by decide), q8, ch_cl h q9 (by decide)⟩, q10⟩
theorem RUt_fr (h : CH XI XL XR XC c c') (ht : TH YI YL YA YB s s') (hS : RSt r c) (hd : (dj [1600, 1601, 1602, 1607, 1608, 1610] XI && dj [1606] XL && dj [1603, 1604, 1605, 1614, 1617] XR && dj [5901, 5903] XC && dj [22, 25] YI && dj [36, 37, 38, 39, 40, 42, 46] YA && dj [43] YB) = true) (hy : 35 ∉ YI) (hC : RUt r c s) : RUt r c' s' := by
  have hd0 := hd
  simp only [Bool.and_eq_true] at hd
  obtain ⟨⟨⟨⟨⟨⟨d1, d2⟩, d3⟩, d4⟩, d5⟩, d6⟩, d7⟩ := hd
  have hu := RSt_uL hS
  obtain ⟨q1, q2, q3⟩ := hC
  unfold RUt
  rw [th_cok ht hy, th_cnt ht hy]
  refine ⟨q1, lsr_fr h hu (by decide) (dj_not d4 (by simp)) (by decide) q2, fun k hk => ?_⟩
  rw [ch_lid h hu (by decide) (dj_not d4 (by simp))]
  exact uOK_fr h ht hS hd0 (q2.2 k hk).2 (q3 k hk)
end
