set_option maxRecDepth 100000
set_option maxHeartbeats 4000000
/-! D88: a right of a limit, at the state of a parse -/
section
variable {XI XL XR XC : List Nat} {c c' : cS} {s s' : tS}
theorem rOK_ls (h : CH XI XL XR XC c c') (h1 : dj [1201] XI = true) (h2 : dj [1200, 1401] XR = true) (h5 : dj [1400] XL = true) {L of cl : Nat} (hcl : cl ≠ 0) (hLs : cLs c' L = cLs c L) (e23 : tA s' 23 of = tA s 23 of) (e24 : ∀ i, i < 8 → tB s' 24 (8 * of + i) = tB s 24 (8 * of + i))
    (eq : ∀ i, i < 8 → tA s' 18 (16 + (8 * of + i)) = tA s 18 (16 + (8 * of + i)) ∧ tA s' 19 (16 + (8 * of + i)) = tA s 19 (16 + (8 * of + i)) ∧ ∀ j, j < 5 → tB s' 17 (5 * (16 + (8 * of + i)) + j) = tB s 17 (5 * (16 + (8 * of + i)) + j)) (hp : rOK c s L of cl) : rOK c' s' L of cl := by
  obtain ⟨a1, a2, a3, a4⟩ := hp
  have h8 := a2.2
  have h2' : dj [1200] XR = true := by unfold dj at h2 ⊢; simp_all
  have hlid : ∀ i, lid c' L i = lid c L i := fun i => by unfold lid; rw [hLs]
  refine ⟨ch_cl h a1 hcl, by rw [aok_eq e23]; exact a2, ?_, fun i hi => ?_⟩
  · rw [ca_eq e23]
    refine ⟨by rw [hLs]; exact a3.1, fun i hi => ?_⟩
    rw [hlid, hLs]
    exact ⟨(a3.2 i hi).1, ch_cl h (a3.2 i hi).2 (by decide)⟩
  · rw [ca_eq e23] at hi
    obtain ⟨b1, P, b2, b3⟩ := a4 i hi
    have hc := (a3.2 i hi).2
    rw [hlid, ch_L h hc (by decide) (dj_not h5 (by simp)), ch_R h hc (by decide) (dj_not h2 (by simp)), e24 i (by omega)]
    exact ⟨b1, P, b2, pOK_ix h h1 h2' (eq i (by omega)) b3⟩
end
section
variable {XI XL XR XC YI YL YA YB : List Nat} {c c' : cS} {s s' : tS} {r : Nat}
/-- the reference's pattern q is as it was -/
def pU (s s' : tS) (q : Nat) : Prop := tA s' 18 q = tA s 18 q ∧ tA s' 19 q = tA s 19 q ∧ ∀ i, i < 5 → tB s' 17 (5 * q + i) = tB s 17 (5 * q + i)
theorem RGt_ix (h : CH XI XL XR XC c c') (ht : TH YI YL YA YB s s') (hS : RSt r c) (hd : (dj [1201] XI && dj [1200, 1300, 1301, 1401] XR && dj [1400] XL && dj [5900, 6301] XC && dj [20] YI) = true) (hq : ∀ q, 8 ≤ q → q < 80 → pU s s' q) (h23 : ∀ k, k < 8 → tA s' 23 k = tA s 23 k) (h24 : ∀ j, j < 64 → tB s' 24 j = tB s 24 j) (hC : RGt r c s) : RGt r c' s' := by
  simp only [Bool.and_eq_true] at hd
  obtain ⟨⟨⟨⟨d1, d2⟩, d3⟩, d4⟩, d5⟩ := hd
  have hg := RSt_gL hS
  have d2a : dj [1200] XR = true := by unfold dj at d2 ⊢; simp_all
  have d2b : dj [1200, 1401] XR = true := by unfold dj at d2 ⊢; simp_all
  obtain ⟨q1, q2, q3⟩ := hC
  have h8 := q1.2
  unfold RGt
  rw [th_cok ht (dj_not d5 (by simp)), th_cnt ht (dj_not d5 (by simp))]
  refine ⟨q1, lsr_fr h hg (by decide) (dj_not d4 (by simp)) (by decide) q2, fun k hk => ?_⟩
  have hc := (q2.2 k hk).2
  obtain ⟨P, L, r1, r2, r3, r4⟩ := q3 k hk
  rw [ch_lid h hg (by decide) (dj_not d4 (by simp)), ch_R h hc (by decide) (dj_not d2 (by simp)), ch_R h hc (by decide) (dj_not d2 (by simp))]
  exact ⟨P, L, r1, pOK_ix h d1 d2a (hq (8 + k) (by omega) (by omega)) r2, r3, rOK_ix h d1 d2b d3 (by decide) (dj_not d4 (by simp)) (h23 k (by omega)) (fun i hi => h24 _ (by omega)) (fun i hi => hq _ (by omega) (by omega)) r4⟩
theorem RLt_ix (h : CH XI XL XR XC c c') (ht : TH YI YL YA YB s s') (hS : RSt r c) (hd : (dj [1201] XI && dj [1200, 2300, 1401] XR && dj [1400] XL && dj [5904, 7300] XC && dj [22] YI) = true) (hq : ∀ q, 80 ≤ q → q < 240 → pU s s' q) (h23 : ∀ k, 8 ≤ k → tA s' 23 k = tA s 23 k) (h24 : ∀ j, 64 ≤ j → tB s' 24 j = tB s 24 j) (hC : RLt r c s) : RLt r c' s' := by
  simp only [Bool.and_eq_true] at hd
  obtain ⟨⟨⟨⟨d1, d2⟩, d3⟩, d4⟩, d5⟩ := hd
  have hg := RSt_lL hS
  have d2b : dj [1200, 1401] XR = true := by unfold dj at d2 ⊢; simp_all
  obtain ⟨q1, q2, q3⟩ := hC
  have h8 := q1.2
  unfold RLt
  rw [th_cok ht (dj_not d5 (by simp)), th_cnt ht (dj_not d5 (by simp))]
  refine ⟨q1, lsr_fr h hg (by decide) (dj_not d4 (by simp)) (by decide) q2, fun k hk => ?_⟩
  have hc := (q2.2 k hk).2
  obtain ⟨L, r3, r4⟩ := q3 k hk
  rw [ch_lid h hg (by decide) (dj_not d4 (by simp)), ch_R h hc (by decide) (dj_not d2 (by simp))]
  exact ⟨L, r3, rOK_ix h d1 d2b d3 (by decide) (dj_not d4 (by simp)) (h23 _ (by omega)) (fun i hi => h24 _ (by omega)) (fun i hi => hq _ (by omega) (by omega)) r4⟩
theorem mOK_ix (h : CH XI XL XR XC c c') (ht : TH YI YL YA YB s s') (hS : RSt r c) (hd : (dj [1201, 1500, 1506] XI && dj [1501] XL && dj [1200, 1502, 1503, 1505, 1507] XR && dj [5901, 5903, 6505, 6507] XC && dj [35] YI && dj [27, 28, 30, 31, 36] YA && dj [26, 29] YB) = true) {k a x : Nat} (ha : cCl c a = 15) (hq : pU s s' k) (hC : mOK r c s k a x) : mOK r c' s' k a x := by
  simp only [Bool.and_eq_true] at hd
  obtain ⟨⟨⟨⟨⟨⟨d1, d2⟩, d3⟩, d4⟩, d5⟩, d6⟩, d7⟩ := hd
  have hm := RSt_mL hS
  have hu := RSt_uL hS
  have d1a : dj [1201] XI = true := by unfold dj at d1 ⊢; simp_all
  have d3a : dj [1200] XR = true := by unfold dj at d3 ⊢; simp_all
  have d6b : dj [27, 28] YA = true := by unfold dj at d6 ⊢; simp_all
  obtain ⟨q1, q2, ⟨P, q3, q4, q5⟩, q6, ⟨q7, q8, q9, q10, q11⟩, q12, ⟨q13, q14, q15, q16, q17⟩⟩ := hC
  have nA : ∀ x, x ∈ [27, 28, 30, 31, 36] → x ∉ YA := fun x hx => dj_not d6 hx
  have nR : ∀ x, x ∈ [1200, 1502, 1503, 1505, 1507] → cR c' x a = cR c x a := fun x hx => ch_R h ha (by decide) (dj_not d3 hx)
  unfold mOK
  rw [ch_I h ha (by decide) (dj_not d1 (x := 1500) (by simp)), ch_I h ha (by decide) (dj_not d1 (x := 1506) (by simp)), ch_L h ha (by decide) (dj_not d2 (by simp)), nR 1502 (by simp), nR 1503 (by simp), nR 1505 (by simp), nR 1507 (by simp), th_B ht (dj_not d7 (x := 26) (by simp)), th_A ht (nA 27 (by simp)), fAb_fr ht d6b, th_aok ht (nA 28 (by simp)), th_aok ht (nA 30 (by simp)), th_ca ht (nA 28 (by simp)), th_ca ht (nA 30 (by simp)), ch_Ls h q8 (by decide) (dj_not d4 (by simp)), ch_Ls h q14 (by decide) (dj_not d4 (by simp)), th_cnt ht (dj_not d5 (by simp))]
  refine ⟨q1, q2, ⟨P, q3, pOK_ix h d1a d3a hq q4, hq.2.1.trans q5⟩, ?_, ⟨q7, ch_cl h q8 (by decide), q9, q10, fun i hi => ?_⟩, q12, ⟨q13, ch_cl h q14 (by decide), q15, q16, fun i hi => ?_⟩⟩
  · rcases q6 with q6 | ⟨j, j1, j2, j3⟩
    · left; exact q6
    · right; exact ⟨j, j1, j2, by rw [ch_lid h hm (by decide) (dj_not d4 (by simp))]; exact j3⟩
  · rw [th_B ht (dj_not d7 (by simp))]; exact q11 i hi
  · rw [th_aok ht (nA 31 (by simp)), th_ca ht (nA 31 (by simp)), th_A ht (nA 36 (by simp)), ch_lid h hu (by decide) (dj_not d4 (by simp))]
    exact q17 i hi
theorem RMt_ix (h : CH XI XL XR XC c c') (ht : TH YI YL YA YB s s') (hS : RSt r c) (hd : (dj [1201, 1500, 1506] XI && dj [1501] XL && dj [1200, 1502, 1503, 1505, 1507] XR && dj [5901, 5903, 6505, 6507] XC && dj [35] YI && dj [27, 28, 30, 31, 36] YA && dj [26, 29] YB) = true) (hy : 25 ∉ YI) (hq : ∀ q, q < 8 → pU s s' q) {x : Nat} (hC : RMt r x c s) : RMt r x c' s' := by
  have hd0 := hd
  simp only [Bool.and_eq_true] at hd
  obtain ⟨⟨⟨⟨⟨⟨d1, d2⟩, d3⟩, d4⟩, d5⟩, d6⟩, d7⟩ := hd
  have hm := RSt_mL hS
  obtain ⟨q1, q2, q3⟩ := hC
  have h8 := q1.2
  unfold RMt
  rw [th_cok ht hy, th_cnt ht hy]
  refine ⟨q1, lsr_fr h hm (by decide) (dj_not d4 (by simp)) (by decide) q2, fun k hk => ?_⟩
  rw [ch_lid h hm (by decide) (dj_not d4 (by simp))]
  exact mOK_ix h ht hS hd0 (q2.2 k hk).2 (hq k (by omega)) (q3 k hk)
theorem RAt_ix {Oa : Nat → Prop} (h : CH XI XL XR XC c c') (ht : TH YI YL YA YB s s') (hS : RSt r c) (hd : (dj [1201, 2900, 2901] XI && dj [1400] XL && dj [1200, 1401, 2902, 2903] XR && dj [5905] XC && dj [48] YI && dj [136] YA && dj [49] YB) = true) (hq : ∀ k, k < cnt s 48 → nthD .null (cLs c (r + 11)) k ≠ .null → pU s s' (240 + k)) (hC : RAt r Oa c s) : RAt r Oa c' s' := by
  simp only [Bool.and_eq_true] at hd
  obtain ⟨⟨⟨⟨⟨⟨d1, d2⟩, d3⟩, d4⟩, d5⟩, d6⟩, d7⟩ := hd
  have ha := RSt_aL hS
  have d1a : dj [1201] XI = true := by unfold dj at d1 ⊢; simp_all
  have d3a : dj [1200] XR = true := by unfold dj at d3 ⊢; simp_all
  obtain ⟨q1, q2, q3⟩ := hC
  unfold RAt
  rw [th_cok ht (dj_not d5 (by simp)), th_cnt ht (dj_not d5 (by simp)), ch_Ls h ha (by decide) (dj_not d4 (by simp))]
  refine ⟨q1, q2, fun k hk => ?_⟩
  obtain ⟨g, o, v⟩ := q3 k hk
  rw [ch_lid h ha (by decide) (dj_not d4 (by simp))]
  refine ⟨fun hn => ?_, fun ho => ?_, fun ho hn => by rw [ch_R h (g hn).2.1 (by decide) (dj_not d3 (x := 2903) (by simp))]; exact v ho hn⟩
  · obtain ⟨e1, e2, e3, e4, R, P, f1, f2, f3, f4, f5, f6⟩ := g hn
    rw [ch_I h e2 (by decide) (dj_not d1 (by simp)), ch_I h e2 (by decide) (dj_not d1 (by simp)), ch_R h e2 (by decide) (dj_not d3 (x := 2902) (by simp))]
    refine ⟨e1, ch_cl h e2 (by decide), e3, e4, R, P, f1, ch_cl h f2 (by decide), ?_, ?_, pOK_ix h d1a d3a (hq k hk hn) f5, (hq k hk hn).2.1.trans f6⟩
    · rw [ch_L h f2 (by decide) (dj_not d2 (by simp)), th_B ht (dj_not d7 (x := 49) (by simp))]; exact f3
    · rw [ch_R h f2 (by decide) (dj_not d3 (by simp))]; exact f4
  · obtain ⟨o1, e6⟩ := o ho
    have e2 := (g o1).2.1
    rw [ch_R h e2 (by decide) (dj_not d3 (x := 2903) (by simp)), th_A ht (dj_not d6 (x := 136) (by simp))]
    refine ⟨o1, ?_⟩
    rcases e6 with e6 | ⟨g1, o, g2, g3⟩
    · left; exact e6
    · right; exact ⟨g1, o, g2, by rw [ch_cl h rfl g3]; exact g3⟩
end
section
variable {χ : Nat → Int32} {n t r p f : Nat} {vo : Nat → Nat} {Op Oa Ou : Nat → Prop} {E O : Nat} {c : cS} {s : tS}
theorem P_right (dc dt : Nat) {l L : Nat} (h : RP χ n t r p f vo Op Oa Ou E O c s) (hl : l < cnt s 22) (hlim : cR c 2300 (lid c (r + 9) l) = .ref L) (hun : ∀ k, k < cnt s 22 → k ≠ l → cR c 2300 (lid c (r + 9) k) ≠ .ref L) :
    (∃ a c' s' k pl, cC (dc + 22) 805 [eR (.ref r), eR (.ref L)] c = some (.inr (.ref a), c') ∧ cT (dt + 22) 28 [eR (.ref 0), eI (Int32.ofNat (8 + l))] s = some (.inl none, s') ∧ thr c' a k pl ∧ tI s' 6 = k ∧ tI s' 7 = pl ∧ k ≠ 0 ∧ cNx c' ≤ cNx c + 10 ∧ cSl c' ≤ cSl c + 60) ∨
    ∃ c' s' p' f', cC (dc + 22) 805 [eR (.ref r), eR (.ref L)] c = some (.inl none, c') ∧ cT (dt + 22) 28 [eR (.ref 0), eI (Int32.ofNat (8 + l))] s = some (.inl none, s') ∧ RP χ n t r p' f' vo Op Oa Ou E O c' s' ∧ KC r c c' ∧ KT s s' ∧ CH [1003, 1004, 1005, 1006] [1007] [1008] [7300] c c' ∧ TH [8, 9, 10, 11, 14, 15] [12] [18, 19, 23] [13, 17, 24] s s' ∧ f + 2 ≤ f' ∧ p ≤ f' ∧ cNx c' ≤ cNx c + 8 ∧ cSl c' ≤ cSl c + 60 ∧ (∀ b, raw c b → raw c' b) := by
  obtain ⟨hL, hfi, hn, hQ, hN, hOu, hOp, hOa, hOu2⟩ := h
  obtain ⟨hS, hC, hG, hLm, hM, hU, hV, hI, hF, hA, hB⟩ := hQ
  have h12 := hLm.1.2
  obtain ⟨L', q1, q2⟩ := hLm.2.2 l hl
  rw [hlim] at q1
  obtain rfl := Value.ref.inj q1
  rcases J_right dc dt (L := L) (of := 8 + l) (cl := 7300) (by omega) (by decide) (by decide) (by decide) hS.1 hS.2.1 hL hfi hn q2 with hb | ⟨c', s', p', f', e1, e2, hX, hff, hpf, hfi', h7, hn', hch, hth, hrO, hEx, o23, o24, h8, nx, sl, sl0, hraw, hAI, hLs⟩
  · left; exact hb
  right
  have hKC := KC_of hch hS sl0 (by decide)
  have hKT : KT s s' := KT_of hth (by decide)
  have c22 : cnt s' 22 = cnt s 22 := th_cnt hth (by decide)
  have c20 : cnt s' 20 = cnt s 20 := th_cnt hth (by decide)
  have hlid9 : ∀ i, lid c' (r + 9) i = lid c (r + 9) i := fun i => ch_lid hch (RSt_lL hS) (by decide) (by decide) i
  refine ⟨c', s', p', f', e1, e2, ⟨hX, hfi', hn', ⟨RSt_fr hch (by decide) hS, RCt_fr hch hth hS (by decide) hC, RGt_ix hch hth hS (by decide) (fun q q1 q2 => hEx q (by omega)) (fun k hk => o23 k (by omega)) (fun j hj => o24 j (by omega)) hG, ⟨?_, ?_, fun k hk => ?_⟩, RMt_ix hch hth hS (by decide) (by decide) (fun q hq => hEx q (by omega)) hM, RUt_fr hch hth hS (by decide) (by decide) hU, RVt_fr hch hth hS hU (by decide) hV, RIt_fr hch hth hS hV (by decide) hI, RFt_fr hch hth hS hU (by decide) hF, RAt_ix hch hth hS (by decide) (fun k _ _ => hEx _ (by omega)) hA, RBt_mono hKC hKT hU.2.1.1 (fun v hv => (hV.2.1 v hv).2.2.1) (th_cnt hth (by decide)) (by rw [th_cnt hth (by decide)]; exact Nat.le_refl _) (fun k hk _ => ch_R hch (RUt_cap hU hk).2.2.2 (by decide) (by decide)) (fun k _ _ => th_A hth (by decide) k) (fun y _ _ z hz => th_A hth (by simp only [List.mem_cons, List.not_mem_nil, or_false] at hz ⊢; omega) y) hB⟩, ?_, ?_, ?_, ?_, ?_⟩, hKC, hKT, hch, hth, hff, hpf, nx, sl, hraw⟩
  · rw [th_cok hth (by decide)]; exact hLm.1
  · rw [c22]; exact lsr_fr hch (RSt_lL hS) (by decide) (by decide) (by decide) hLm.2.1
  · rw [c22] at hk
    have hck := (hLm.2.1.2 k hk).2
    rw [hlid9, ch_R hch hck (by decide) (by decide)]
    by_cases e : k = l
    · subst e; exact ⟨L, hlim, hrO⟩
    · obtain ⟨L2, y1, y2⟩ := hLm.2.2 k hk
      have hne : L2 ≠ L := fun z => hun k hk e (by rw [y1, z])
      exact ⟨L2, y1, rOK_ls hch (by decide) (by decide) (by decide) (by decide) (hLs L2 hne (by rw [y2.1]; decide)) (o23 _ (by omega)) (fun i hi => o24 _ (by omega)) (fun i hi => hEx _ (by omega)) y2⟩
  · obtain ⟨Lt, l1, l2, l3, l4⟩ := hN
    exact ⟨Lt, fun k hk => by rw [th_ca hth (by decide)]; exact l1 k (by rw [th_cnt hth (by decide)] at hk; exact hk), by rw [th_cnt hth (by decide), th_cnt hth (by decide)]; exact l2, by omega, by rw [th_cnt hth (by decide)]; exact l4⟩
  · rw [th_cnt hth (by decide)]; exact hOu
  · intro y hy
    rw [th_ca hth (by decide), th_cnt hth (by decide)]; exact hOp y hy
  · intro k hk; rw [th_cnt hth (by decide)]; exact hOa k hk
  · intro k hk; rw [th_cnt hth (by decide)]; exact hOu2 k hk
end
