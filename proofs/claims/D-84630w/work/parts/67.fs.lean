set_option maxRecDepth 100000
set_option maxHeartbeats 1000000
/-! D17: what is not touched stays as it was: variables, flags, trees -/
section
variable {XI XL XR XC YI YL YA YB : List Nat} {c c' : cS} {s s' : tS} {r : Nat} {vo : Nat → Nat}
theorem RUt_cap (hU : RUt r c s) {k : Nat} (hk : k < cnt s 35) : cCl c (lid c (r + 8) k + 1) = 6605 ∧ cCl c (lid c (r + 8) k + 3) = 6614 ∧ cCl c (lid c (r + 8) k + 5) = 6617 ∧ cCl c (lid c (r + 8) k) = 16 := by
  obtain ⟨_, q2, q3⟩ := hU
  obtain ⟨_, _, _, ⟨_, q5, _, q7, _, q9⟩, _⟩ := q3 k hk
  exact ⟨q5, q7, q9, (q2.2 k hk).2⟩
theorem vR_fr (h : CH XI XL XR XC c c') (ht : TH YI YL YA YB s s') (hS : RSt r c) (hU : RUt r c s) (h1 : 5903 ∉ XC) (h2 : 6605 ∉ XC) (hd : dj [44, 45, 51] YA = true) {u v o : Nat} (hu : u < cnt s 35) (hv : vR r vo c s u v o) : vR r vo c' s' u v o := by
  unfold vR at hv ⊢
  rw [th_A ht (dj_not hd (by simp)), th_ca ht (dj_not hd (by simp)), ch_lid h (RSt_uL hS) (by decide) h1, ch_Ls h (RUt_cap hU hu).1 (by decide) h2]
  rcases hv with q | ⟨q, i, i1, i2, i3⟩
  · left; exact q
  · right; exact ⟨q, i, i1, by rw [th_A ht (dj_not hd (by simp))]; exact i2, i3⟩
theorem vI_fr (ht : TH YI YL YA YB s s') (hd : dj [36, 39, 51, 53, 54] YA = true) (v : Nat) : vI s' v = vI s v := by
  unfold vI
  rw [th_ca ht (dj_not hd (x := 53) (by simp)), th_A ht (dj_not hd (x := 54) (by simp)), th_ca ht (dj_not hd (x := 51) (by simp)), th_ca ht (dj_not hd (x := 39) (by simp)), th_A ht (dj_not hd (x := 36) (by simp))]
theorem RVt_fr (h : CH XI XL XR XC c c') (ht : TH YI YL YA YB s s') (hS : RSt r c) (hU : RUt r c s) (hd : (dj [1703] XI && dj [1701, 1702] XR && dj [5903, 6605] XC && dj [35, 50] YI && dj [36, 39, 40, 44, 45, 51, 53, 54] YA) = true) (hC : RVt r vo c s) : RVt r vo c' s' := by
  simp only [Bool.and_eq_true] at hd
  obtain ⟨⟨⟨⟨d1, d2⟩, d3⟩, d4⟩, d5⟩ := hd
  have hu := RSt_uL hS
  have nA : ∀ x, x ∈ [36, 39, 40, 44, 45, 51, 53, 54] → x ∉ YA := fun x hx => dj_not d5 hx
  have d5a : dj [44, 45, 51] YA = true := by unfold dj at d5 ⊢; simp_all
  have d5b : dj [36, 39, 51, 53, 54] YA = true := by unfold dj at d5 ⊢; simp_all
  have el : ∀ k, lid c' (r + 8) k = lid c (r + 8) k := ch_lid h hu (by decide) (dj_not d3 (by simp))
  obtain ⟨q1, q2, q3, q4⟩ := hC
  unfold RVt
  rw [th_cok ht (dj_not d4 (by simp)), th_cnt ht (dj_not d4 (x := 50) (by simp)), th_cnt ht (dj_not d4 (x := 35) (by simp))]
  refine ⟨q1, fun v hv => ?_, q3, fun k hk => ?_⟩
  · obtain ⟨a1, a2, a3, a4, a5, a6, a7, a8⟩ := q2 v hv
    rw [th_aok ht (nA 51 (by simp)), th_aok ht (nA 53 (by simp)), th_ca ht (nA 51 (by simp)), th_A ht (nA 54 (by simp)), vI_fr ht d5b, ch_R h a1 (by decide) (dj_not d2 (by simp)), ch_R h a1 (by decide) (dj_not d2 (by simp)), ch_I h a1 (by decide) (dj_not d1 (by simp)), el]
    exact ⟨ch_cl h a1 (by decide), a2, a3, a4, a5, a6, a7, a8⟩
  · obtain ⟨b1, b2, b3, b4⟩ := q4 k hk
    have hcap := (RUt_cap hU hk).1
    have ec : ∀ i, lid c' (lid c (r + 8) k + 1) i = lid c (lid c (r + 8) k + 1) i := ch_lid h hcap (by decide) (dj_not d3 (by simp))
    rw [th_aok ht (nA 44 (by simp)), th_ca ht (nA 44 (by simp)), el]
    refine ⟨b1, lsr_fr h hcap (by decide) (dj_not d3 (by simp)) (by decide) b2, fun i hi => ?_, fun i j hi hj e => ?_⟩
    · obtain ⟨e1, e2, e3, e4, e5, e6, o, e7, e8⟩ := b3 i hi
      have hc := (b2.2 i hi).2
      rw [th_aok ht (nA 45 (by simp)), th_ca ht (nA 45 (by simp)), th_A ht (nA 40 (by simp)), th_ca ht (nA 51 (by simp)), th_ca ht (nA 40 (by simp)), ec, ch_R h hc (by decide) (dj_not d2 (by simp)), ch_R h hc (by decide) (dj_not d2 (by simp)), ch_I h hc (by decide) (dj_not d1 (by simp))]
      refine ⟨e1, e2, e3, e4, e5, e6, o, e7, vR_fr h ht hS hU (dj_not d3 (by simp)) (dj_not d3 (by simp)) d5a ?_ e8⟩
      obtain ⟨_, _, q⟩ := hU
      obtain ⟨_, _, w, _⟩ := q k hk
      rcases w with w | w
      · exact absurd w.1 e3
      · omega
    · rw [th_A ht (nA 45 (by simp)), th_A ht (nA 45 (by simp))] at e
      exact b4 i j hi hj e
theorem anc_fr (ht : TH YI YL YA YB s s') (h1 : 40 ∉ YA) : ∀ g u v, anc s' g u v = anc s g u v := by
  intro g
  induction g with
  | zero => intro u v; rfl
  | succ g ih =>
    intro u v
    unfold anc
    rw [th_A ht h1, th_ca ht h1, ih]
theorem CPr_fr (ht : TH YI YL YA YB s s') (hI : dj [35, 56, 64] YI = true) (hA : dj [40, 44, 45, 55, 57] YA = true) {q : Nat} (h : CPr s q) : CPr s' q := by
  have nA : ∀ x, x ∈ [40, 44, 45, 55, 57] → x ∉ YA := fun x hx => dj_not hA hx
  intro k hk ha i hi
  rw [th_cnt ht (dj_not hI (x := 35) (by simp))] at hk
  rw [anc_fr ht (nA 40 (by simp)), th_cnt ht (dj_not hI (x := 64) (by simp))] at ha
  rw [th_ca ht (nA 44 (by simp))] at hi
  rw [th_ca ht (nA 45 (by simp)), th_ca ht (nA 55 (by simp)), th_cnt ht (dj_not hI (x := 56) (by simp))]
  rcases h k hk ha i hi with ⟨j, j1, j2⟩ | w
  · exact Or.inl ⟨j, j1, by rw [th_ca ht (nA 57 (by simp))]; exact j2⟩
  · exact Or.inr w
theorem RIt_fr (h : CH XI XL XR XC c c') (ht : TH YI YL YA YB s s') (hS : RSt r c) (hV : RVt r vo c s) (hd : (dj [802, 803, 804] XR && dj [1700] XL && dj [5805, 5901, 5903] XC && dj [25, 35, 50, 56, 64] YI && dj [37, 40, 44, 45, 51, 55, 57] YA && dj [52] YB) = true) (hC : RIt r vo c s) : RIt r vo c' s' := by
  simp only [Bool.and_eq_true] at hd
  obtain ⟨⟨⟨⟨⟨d1, d2⟩, d3⟩, d4⟩, d5⟩, d6⟩ := hd
  have nA : ∀ x, x ∈ [37, 40, 44, 45, 51, 55, 57] → x ∉ YA := fun x hx => dj_not d5 hx
  have d4' : dj [35, 56, 64] YI = true := by unfold dj at d4 ⊢; simp_all
  have d5' : dj [40, 44, 45, 55, 57] YA = true := by unfold dj at d5 ⊢; simp_all
  have nI : ∀ x, x ∈ [25, 35, 50, 56, 64] → cnt s' x = cnt s x := fun x hx => th_cnt ht (dj_not d4 hx)
  have nR : ∀ x, x ∈ [802, 803, 804] → cR c' x r = cR c x r := fun x hx => ch_R h hS.1 (by decide) (dj_not d1 hx)
  obtain ⟨q1, q2, ⟨q3, q4, q5⟩, q, q6, q7, q8, q9, q10, q11, q12, q13⟩ := hC
  unfold RIt
  rw [th_cok ht (dj_not d4 (x := 64) (by simp)), th_cok ht (dj_not d4 (x := 56) (by simp)), nI 64 (by simp), nI 25 (by simp), nI 35 (by simp), nI 50 (by simp), nI 56 (by simp), nR 802 (by simp), nR 803 (by simp), nR 804 (by simp), ch_lid h (RSt_uL hS) (by decide) (dj_not d3 (by simp)), ch_lid h (RSt_mL hS) (by decide) (dj_not d3 (by simp)), th_ca ht (nA 37 (by simp)), ch_Ls h (RSt_vL hS) (by decide) (dj_not d3 (by simp))]
  refine ⟨q1, q2, ⟨q3, q4, fun i hi => ?_⟩, q, q6, ?_⟩
  · obtain ⟨e1, e2, e3, e4, e5⟩ := q5 i hi
    have hc := (hV.2.1 _ e2).1
    rw [th_aok ht (nA 57 (by simp)), th_ca ht (nA 57 (by simp)), ch_L h hc (by decide) (dj_not d2 (by simp)), th_B ht (dj_not d6 (by simp)), anc_fr ht (nA 40 (by simp)), th_ca ht (nA 51 (by simp))]
    exact ⟨e1, e2, e3, e4, e5⟩
  · rw [th_A ht (nA 40 (by simp)), anc_fr ht (nA 40 (by simp)), th_aok ht (nA 55 (by simp)), th_ca ht (nA 55 (by simp)), th_ca ht (nA 51 (by simp))]
    exact ⟨q7, q8, q9, q10, q11, q12, CPr_fr ht d4' d5' q13⟩
theorem RAt_fr {Oa : Nat → Prop} (h : CH XI XL XR XC c c') (ht : TH YI YL YA YB s s') (hS : RSt r c) (hd : (dj [1201, 2900, 2901] XI && dj [1400] XL && dj [1200, 1401, 2902, 2903] XR && dj [5905] XC && dj [48] YI && dj [18, 19, 136] YA && dj [17, 49] YB) = true) (hC : RAt r Oa c s) : RAt r Oa c' s' := by
  simp only [Bool.and_eq_true] at hd
  obtain ⟨⟨⟨⟨⟨⟨d1, d2⟩, d3⟩, d4⟩, d5⟩, d6⟩, d7⟩ := hd
  have ha := RSt_aL hS
  have d1a : dj [1201] XI = true := by unfold dj at d1 ⊢; simp_all
  have d3a : dj [1200] XR = true := by unfold dj at d3 ⊢; simp_all
  have d6a : dj [18, 19] YA = true := by unfold dj at d6 ⊢; simp_all
  have d7a : dj [17] YB = true := by unfold dj at d7 ⊢; simp_all
  obtain ⟨q1, q2, q3⟩ := hC
  unfold RAt
  rw [th_cok ht (dj_not d5 (by simp)), th_cnt ht (dj_not d5 (by simp)), ch_Ls h ha (by decide) (dj_not d4 (by simp))]
  refine ⟨q1, q2, fun k hk => ?_⟩
  obtain ⟨g, o, v⟩ := q3 k hk
  rw [ch_lid h ha (by decide) (dj_not d4 (by simp))]
  refine ⟨fun hn => ?_, fun ho => ?_, fun ho hn => by rw [ch_R h (g hn).2.1 (by decide) (dj_not d3 (x := 2903) (by simp))]; exact v ho hn⟩
  · obtain ⟨e1, e2, e3, e4, R, P, f1, f2, f3, f4, f5, f6⟩ := g hn
    rw [ch_I h e2 (by decide) (dj_not d1 (by simp)), ch_I h e2 (by decide) (dj_not d1 (by simp)), ch_R h e2 (by decide) (dj_not d3 (x := 2902) (by simp))]
    refine ⟨e1, ch_cl h e2 (by decide), e3, e4, R, P, f1, ch_cl h f2 (by decide), ?_, ?_, pOK_fr h ht d1a d3a d6a d7a f5, ?_⟩
    · rw [ch_L h f2 (by decide) (dj_not d2 (by simp)), th_B ht (dj_not d7 (x := 49) (by simp))]; exact f3
    · rw [ch_R h f2 (by decide) (dj_not d3 (by simp))]; exact f4
    · rw [th_A ht (dj_not d6 (by simp))]; exact f6
  · obtain ⟨o1, e6⟩ := o ho
    have e2 := (g o1).2.1
    rw [ch_R h e2 (by decide) (dj_not d3 (x := 2903) (by simp)), th_A ht (dj_not d6 (x := 136) (by simp))]
    refine ⟨o1, ?_⟩
    rcases e6 with e6 | ⟨g1, o, g2, g3⟩
    · left; exact e6
    · right; exact ⟨g1, o, g2, by rw [ch_cl h rfl g3]; exact g3⟩
/-! trees -/
theorem useOK_fr (h : CH XI XL XR XC c c') (ht : TH YI YL YA YB s s') (hS : RSt r c) (hd : (dj [1703] XI && dj [1701, 1702] XR && dj [5903] XC && dj [50] YI && dj [36, 39, 44, 45, 51, 53, 54] YA) = true) {u v o : Nat} (hC : useOK r c s u v o) : useOK r c' s' u v o := by
  simp only [Bool.and_eq_true] at hd
  obtain ⟨⟨⟨⟨d1, d2⟩, d3⟩, d4⟩, d5⟩ := hd
  have nA : ∀ x, x ∈ [36, 39, 44, 45, 51, 53, 54] → x ∉ YA := fun x hx => dj_not d5 hx
  have d5b : dj [36, 39, 51, 53, 54] YA = true := by unfold dj at d5 ⊢; simp_all
  obtain ⟨q1, q2, q3, q4⟩ := hC
  unfold useOK
  rw [ch_R h q1 (by decide) (dj_not d2 (x := 1701) (by simp)), ch_R h q1 (by decide) (dj_not d2 (x := 1702) (by simp)), ch_lid h (RSt_uL hS) (by decide) (dj_not d3 (by simp)), th_cnt ht (dj_not d4 (by simp)), ch_I h q1 (by decide) (dj_not d1 (by simp)), vI_fr ht d5b, th_A ht (nA 51 (by simp)), th_ca ht (nA 44 (by simp))]
  refine ⟨ch_cl h q1 (by decide), q2, q3, ?_⟩
  rcases q4 with q4 | ⟨o', e1, e2, i, e3, e4, e5⟩
  · left; exact q4
  · right; exact ⟨o', e1, e2, i, e3, by rw [th_A ht (nA 45 (by simp))]; exact e4, e5⟩
end
