set_option maxRecDepth 100000
set_option maxHeartbeats 4000000
/-! D49: a variable more -/
section
variable {XI XL XR XC YI YL YA YB : List Nat} {c c' : cS} {s s' : tS} {r : Nat}
theorem uOK_fr2 (h : CH XI XL XR XC c c') (ht : TH YI YL YA YB s s') (hS : RSt r c) (hd : (dj [1600, 1601, 1602, 1610] XI && dj [1606] XL && dj [1603, 1604, 1605, 1614, 1617] XR && dj [5901, 5903] XC && dj [22, 25] YI && dj [36, 37, 38, 40, 42] YA && dj [43] YB) = true) {k a : Nat} (ha : cCl c a = 16) (hC : uOK r c s k a)
    (h39 : aok s' 39 k 3 ∧ cI c' 1607 a = tA s' 39 k) (h46 : aok s' 46 k 200 ∧ cI c' 1608 a = Int32.ofNat (ow s' k)) : uOK r c' s' k a := by
  simp only [Bool.and_eq_true] at hd
  obtain ⟨⟨⟨⟨⟨⟨d1, d2⟩, d3⟩, d4⟩, d5⟩, d6⟩, d7⟩ := hd
  have hm := RSt_mL hS
  have hu := RSt_uL hS
  have nA : ∀ x, x ∈ [36, 37, 38, 40, 42] → x ∉ YA := fun x hx => dj_not d6 hx
  have nR : ∀ x, x ∈ [1603, 1604, 1605, 1614, 1617] → cR c' x a = cR c x a := fun x hx => ch_R h ha (by decide) (dj_not d3 hx)
  have nI : ∀ x, x ∈ [1600, 1601, 1602, 1610] → cI c' x a = cI c x a := fun x hx => ch_I h ha (by decide) (dj_not d1 hx)
  unfold uOK at hC ⊢
  obtain ⟨q1, q2, q3, ⟨q4, q5, q6, q7, q8, q9⟩, q10, _, _, q11⟩ := hC
  refine ⟨?_, ?_, ?_, ?_, ?_, h39, h46, ?_⟩
  · rw [nI 1600 (by simp), nI 1601 (by simp), nI 1602 (by simp), th_aok ht (nA 36 (by simp)), th_A ht (nA 36 (by simp)), th_A ht (nA 38 (by simp))]; exact q1
  · rw [nR 1603 (by simp), th_aok ht (nA 37 (by simp)), th_ca ht (nA 37 (by simp)), th_cnt ht (dj_not d5 (x := 25) (by simp)), ch_lid h hm (by decide) (dj_not d4 (by simp))]; exact q2
  · rw [nR 1604 (by simp), th_aok ht (nA 40 (by simp)), th_ca ht (nA 40 (by simp)), th_A ht (nA 40 (by simp)), th_A ht (nA 36 (by simp)), ch_lid h hu (by decide) (dj_not d4 (by simp))]; exact q3
  · rw [nR 1605 (by simp), nR 1614 (by simp), nR 1617 (by simp)]
    exact ⟨q4, ch_cl h q5 (by decide), q6, ch_cl h q7 (by decide), q8, ch_cl h q9 (by decide)⟩
  · rw [ch_L h ha (by decide) (dj_not d2 (by simp)), th_A ht (nA 36 (by simp)), th_B ht (dj_not d7 (by simp))]; exact q10
  · rw [nI 1610 (by simp), th_aok ht (nA 42 (by simp)), th_ca ht (nA 42 (by simp)), th_A ht (nA 42 (by simp)), th_A ht (nA 36 (by simp)), th_cnt ht (dj_not d5 (x := 22) (by simp))]; exact q11
end
section
variable {c c' : cS} {s s' : tS} {r : Nat} {vo : Nat → Nat}
theorem RVt_var (hV : RVt r vo c s) (h60 : cnt s 35 ≤ 60) (ht : TH [50, 56, 73] [] [39, 46, 51, 53, 54, 57] [52] s s') (e50 : tI s' 50 = Int32.ofNat (cnt s 50 + 1)) (h500 : cnt s 50 + 1 ≤ 500) (old : ∀ v, v < cnt s 50 → tA s' 51 v = tA s 51 v ∧ tA s' 53 v = tA s 53 v ∧ tA s' 54 v = tA s 54 v)
    (hvI : ∀ v, v < cnt s 50 → vI s' v = vI s v) {u o : Nat} (hu : u < cnt s 35) (ho : cCl c o = 17) (ho1 : cR c 1701 o = .ref (lid c (r + 8) u)) (ho2 : cR c 1702 o = .null) (ho3 : cI c 1703 o = Int32.ofNat (vI s' (cnt s 50))) (n51 : tA s' 51 (cnt s 50) = Int32.ofNat u) (n54 : tA s' 54 (cnt s 50) = 0 ∨ tA s' 54 (cnt s 50) = 1) (n53 : aok s' 53 (cnt s 50) 500) (hfr : ∀ v, v < cnt s 50 → vo v ≠ o) :
    RVt r (fun v => if v = cnt s 50 then o else vo v) c s' := by
  obtain ⟨v1, v2, v3, v4⟩ := hV
  have c50 : cnt s' 50 = cnt s 50 + 1 := cnt_of e50 (by omega)
  have c35 : cnt s' 35 = cnt s 35 := th_cnt ht (by decide)
  have cu : ca s' 51 (cnt s 50) = u := ca_of n51 (by omega)
  have ov : ∀ v, v < cnt s 50 → (if v = cnt s 50 then o else vo v) = vo v := fun v hv => if_neg (by omega)
  refine ⟨cok_of e50 (by omega) h500, fun v hv => ?_, fun v v' hv hv' e => ?_, fun k hk => ?_⟩
  · rw [c50] at hv
    rw [c35]
    by_cases q : v = cnt s 50
    · dsimp only
      rw [q, if_pos rfl, cu]
      exact ⟨ho, aok_of n51 (by omega) (by omega), hu, ho1, ho2, n54, n53, ho3⟩
    · have hv2 : v < cnt s 50 := by omega
      obtain ⟨o1, o2, o3⟩ := old v hv2
      dsimp only
      rw [if_neg q, aok_eq o1, ca_eq o1, aok_eq o2, o3, hvI v hv2]
      exact v2 v hv2
  · rw [c50] at hv hv'
    by_cases q : v = cnt s 50
    · by_cases q' : v' = cnt s 50
      · rw [q, q']
      · have e' : (if v = cnt s 50 then o else vo v) = (if v' = cnt s 50 then o else vo v') := e
        rw [if_pos q, if_neg q'] at e'
        exact absurd e'.symm (hfr v' (by omega))
    · have e' : (if v = cnt s 50 then o else vo v) = (if v' = cnt s 50 then o else vo v') := e
      by_cases q' : v' = cnt s 50
      · rw [if_neg q, if_pos q'] at e'
        exact absurd e' (hfr v (by omega))
      · rw [if_neg q, if_neg q'] at e'
        exact v3 v v' (by omega) (by omega) e'
  · rw [c35] at hk
    obtain ⟨w1, w2, w3, w4⟩ := v4 k hk
    have o44 : ∀ k, tA s' 44 k = tA s 44 k := fun k => th_A ht (by decide) k
    have o45 : ∀ k, tA s' 45 k = tA s 45 k := fun k => th_A ht (by decide) k
    have o40 : ∀ k, tA s' 40 k = tA s 40 k := fun k => th_A ht (by decide) k
    rw [aok_eq (o44 k), ca_eq (o44 k)]
    refine ⟨w1, w2, fun i hi => ?_, fun i j hi hj e => w4 i j hi hj (by rw [o45, o45] at e; exact e)⟩
    obtain ⟨g1, g2, g3, g4, g5, g6, o', g7, g8⟩ := w3 i hi
    rw [aok_eq (o45 _), ca_eq (o45 _), o40, ca_eq (o40 _), ca_eq (old _ g2).1]
    refine ⟨g1, by omega, g3, g4, g5, g6, o', g7, ?_⟩
    unfold vR at g8 ⊢
    dsimp only
    rw [(old _ g2).1, ca_eq (o44 _), ov _ g2]
    rcases g8 with g8 | ⟨z1, i', z2, z3, z4⟩
    · left; exact g8
    · right; exact ⟨z1, i', z2, by rw [o45]; exact z3, z4⟩
theorem RIt_var (hI : RIt r vo c s) (ht : TH [50, 73] [] [39, 46, 51, 53, 54] [52] s s') (h50 : cnt s 50 ≤ cnt s' 50) (old : ∀ v, v < cnt s 50 → tA s' 51 v = tA s 51 v ∧ tB s' 52 v = tB s 52 v) {vo' : Nat → Nat} (hvo : ∀ v, v < cnt s 50 → vo' v = vo v) : RIt r vo' c s' := by
  obtain ⟨⟨q1, q2, q2'⟩, q3, ⟨q4, q5, q6⟩, q, q7, q8, q9, q10, q11, q12, q13, q14⟩ := hI
  have nI : ∀ x, x ∈ [25, 35, 56, 64] → cnt s' x = cnt s x := fun x hx => th_cnt ht (by simp only [List.mem_cons, List.not_mem_nil, or_false] at hx ⊢; omega)
  have nA : ∀ x, x ∈ [37, 40, 55, 57] → ∀ k, tA s' x k = tA s x k := fun x hx k => th_A ht (by simp only [List.mem_cons, List.not_mem_nil, or_false] at hx ⊢; omega) k
  unfold RIt
  rw [th_cok ht (x := 64) (by decide), th_cok ht (x := 56) (by decide), nI 64 (by simp), nI 25 (by simp), nI 35 (by simp), nI 56 (by simp), ca_eq (nA 37 (by simp) _)]
  refine ⟨⟨q1, q2, q2'⟩, q3, ⟨q4, q5, fun i hi => ?_⟩, q, q7, by rw [nA 40 (by simp)]; exact q8, by rw [anc_fr ht (by decide)]; exact q9, by rw [aok_eq (nA 55 (by simp) _)]; exact q10, by rw [ca_eq (nA 55 (by simp) _)]; omega, ?_, ?_, CPr_fr ht (by decide) (by decide) q14⟩
  · obtain ⟨g1, g2, g3, g4, g5⟩ := q6 i hi
    rw [aok_eq (nA 57 (by simp) _), ca_eq (nA 57 (by simp) _), hvo _ g2, (old _ g2).2, anc_fr ht (by decide), ca_eq (old _ g2).1]
    exact ⟨g1, by omega, g3, g4, g5⟩
  · rw [ca_eq (nA 55 (by simp) _), ca_eq (old _ q11).1]; exact q12
  · rw [ca_eq (nA 55 (by simp) _), hvo _ q11]; exact q13
/-- the component makes a variable -/
def vrC (c : cS) (u w : Nat) (a : Int64) : cS := csI (csR (csR (csL (nwC (csI c 1608 u (Int32.ofNat (w + 1))) 17) 1700 (cNx c) a) 1701 (cNx c) (.ref u)) 1702 (cNx c) .null) 1703 (cNx c) (Int32.ofNat w)
theorem c_vadd (d : Nat) {u w : Nat} {a : Int64} (hu : cCl c u = 16) (hn : cCl c (cNx c) = 0) (hw : cI c 1608 u = Int32.ofNat w) : cC (d + 11) 1602 [eR (.ref u), eL a] c = some (.inl (some (eR (.ref (cNx c)))), vrC c u w a) := by
  have hne : u ≠ cNx c := by rintro rfl; rw [hn] at hu; cases hu
  have e1 : Int32.ofNat w + 1 = Int32.ofNat (w + 1) := by rw [show (1 : Int32) = Int32.ofNat 1 from rfl, z_add]
  have e2 : Int32.ofNat (w + 1) - 1 = Int32.ofNat w := by rw [show (1 : Int32) = Int32.ofNat 1 from rfl, z_sub (by omega)]; rfl
  rw [kX16_add, r_cck, if_pos hu, uX16_add, r_cgI, if_pos hu, hw, e1, r_cpI, if_pos hu, r_cnw]
  have g1 : cCl (cmore (csCl (csI c 1608 u (Int32.ofNat (w + 1))) (cNx (csI c 1608 u (Int32.ofNat (w + 1)))) 17) (csz 17)) u = 16 := by simp [gC, hne, hu]
  have g2 : cI (cmore (csCl (csI c 1608 u (Int32.ofNat (w + 1))) (cNx (csI c 1608 u (Int32.ofNat (w + 1)))) 17) (csz 17)) 1608 u = Int32.ofNat (w + 1) := by simp [gC]
  have g3 : cCl (cmore (csCl (csI c 1608 u (Int32.ofNat (w + 1))) (cNx (csI c 1608 u (Int32.ofNat (w + 1)))) 17) (csz 17)) (cNx c) = 17 := by simp [gC]
  rw [r_cgI, if_pos g1, g2, e2]
  show bV (cC (d + 10) 1700 [eR (.ref (cNx c)), eL a, eR (.ref u), eR .null, eI (Int32.ofNat w)] _) _ = _
  rw [kX17_init, r_cck, if_pos g3, uX17_init]
  simp only [pP, g3, rC, bB, Nat.reduceDiv, Nat.reduceLeDiff, Nat.reduceLT,  eq_self, if_true, if_false, true_and, and_true, false_and, and_false, or_true, true_or, or_false, false_or, reduceIte, reduceCtorEq, Nat.reduceEqDiff, not_true_eq_false, not_false_eq_true, r_misN, r_misR, gC]
  rfl
theorem vr_ch (hn : CLN c) (u w : Nat) (a : Int64) : CH [1608] [] [] [] c (vrC c u w a) := by
  have h0 := (hn _ (Nat.le_refl _)).1
  have hnl : ¬ live c (cNx c) := fun q => q.1 h0
  exact CH_I (Or.inr hnl) (CH_R (Or.inr hnl) (CH_R (Or.inr hnl) (CH_L (Or.inr hnl) (CH_more (CH_Cl h0 (CH_I (Or.inl (by simp)) (CH_refl _ _ _ _ c)))))))
theorem vr_raw (hn : CLN c) {u : Nat} (hu : cCl c u = 16) (w : Nat) (a : Int64) : ∀ b, raw c b → raw (vrC c u w a) b := by
  have h0 := (hn _ (Nat.le_refl _)).1
  exact raw_I (raw_R h0 (raw_R h0 (raw_L (fun b q => nw_raw (c := csI c 1608 u (Int32.ofNat (w + 1))) (CLN_I (by rw [hu]) hn) 17 b q))))
/-- the reference makes one, and a unit has a let more -/
def vrT (s : tS) (u : Nat) (b : Int64) : tS := tsI (tsA (tsA (tsB (tsA (tsI (tsA s 46 u (tA s 46 u + 1)) 50 (tI s 50 + 1)) 51 (cnt s 50) (Int32.ofNat u)) 52 (cnt s 50) b) 53 (cnt s 50) (tA s 46 u)) 54 (cnt s 50) 1) 73 (Int32.ofNat (cnt s 50))
theorem vrT_th (s : tS) (u : Nat) (b : Int64) : TH [50, 73] [] [46, 51, 53, 54] [52] s (vrT s u b) := TH_I (by simp) (TH_A (by simp) (TH_A (by simp) (TH_B (by simp) (TH_A (by simp) (TH_I (by simp) (TH_A (by simp) (TH_refl _ _ _ _ s)))))))
theorem vrT_new (s : tS) (u : Nat) (b : Int64) : tA (vrT s u b) 51 (cnt s 50) = Int32.ofNat u ∧ tB (vrT s u b) 52 (cnt s 50) = b ∧ tA (vrT s u b) 53 (cnt s 50) = tA s 46 u ∧ tA (vrT s u b) 54 (cnt s 50) = 1 ∧ tI (vrT s u b) 73 = Int32.ofNat (cnt s 50) ∧ tA (vrT s u b) 46 u = tA s 46 u + 1 := by
  refine ⟨?_, ?_, ?_, ?_, ?_, ?_⟩ <;> simp [vrT, gT]
theorem vrT_old (s : tS) (u : Nat) (b : Int64) {v : Nat} (hv : v ≠ cnt s 50) : tA (vrT s u b) 51 v = tA s 51 v ∧ tB (vrT s u b) 52 v = tB s 52 v ∧ tA (vrT s u b) 53 v = tA s 53 v ∧ tA (vrT s u b) 54 v = tA s 54 v := by
  refine ⟨?_, ?_, ?_, ?_⟩ <;> simp [vrT, gT, hv]
theorem vrT_46 (s : tS) (u : Nat) (b : Int64) {k : Nat} (hk : k ≠ u) : tA (vrT s u b) 46 k = tA s 46 k := by simp [vrT, gT, hk]
theorem vrT_50 (u : Nat) (b : Int64) (h : cok s 50 500) : tI (vrT s u b) 50 = Int32.ofNat (cnt s 50 + 1) := (cnt_up h (by decide)).2
theorem RNt_var {O O' f f' u : Nat} {b : Int64} (hN : RNt O f s) (h50 : cok s 50 500) (hu : aok s 46 u 200) (hu35 : u < cnt s 35) (hf : f + 7 + O ≤ f' + O') (hO : O' ≤ 4 * cnt s 63) : RNt O' f' (vrT s u b) := by
  obtain ⟨Lt, h1, h2, h3, h4⟩ := hN
  have hth := vrT_th s u b
  have c50 := cnt_of (vrT_50 u b h50) (by have := h50.2; omega)
  have e46 : ca (vrT s u b) 46 u = ca s 46 u + 1 := by
    refine ca_of ?_ (by have := hu.2; omega)
    rw [(vrT_new s u b).2.2.2.2.2, hu.1, show (1 : Int32) = Int32.ofNat 1 from rfl, z_add]
  refine ⟨Lt + 1, ?_, ?_, by omega, ?_⟩
  · rw [th_cnt hth (by decide)]
    intro k hk
    by_cases q : k = u
    · rw [q, e46]; have := h1 u hu35; omega
    · rw [ca_eq (vrT_46 s u b q)]; have := h1 k hk; omega
  · rw [c50, th_cnt hth (by decide)]; omega
  · rw [th_cnt hth (by decide)]; exact hO
end
section
variable {χ : Nat → Int32} {n t r p f : Nat} {vo : Nat → Nat} {Op Oa Ou : Nat → Prop} {E O : Nat} {c : cS} {s : tS}
theorem P_var {O' : Nat} {a b : Int64} (h : RP χ n t r p f vo Op Oa Ou E O c s) (hnm : nm a b) (hN' : RNt O' f (vrT s (cnt s 64) b)) (h500 : cnt s 50 + 1 ≤ 500) (h200 : ca s 46 (cnt s 64) + 1 ≤ 200) :
    RP χ n t r p f (fun v => if v = cnt s 50 then cNx c else vo v) Op Oa Ou E O' (vrC c (lid c (r + 8) (cnt s 64)) (ow s (cnt s 64)) a) (vrT s (cnt s 64) b) ∧ KC r c (vrC c (lid c (r + 8) (cnt s 64)) (ow s (cnt s 64)) a) ∧ KT s (vrT s (cnt s 64) b) ∧
    useOK r (vrC c (lid c (r + 8) (cnt s 64)) (ow s (cnt s 64)) a) (vrT s (cnt s 64) b) (cnt s 64) (cnt s 50) (cNx c) ∧ cI c 1608 (lid c (r + 8) (cnt s 64)) = Int32.ofNat (ow s (cnt s 64)) ∧ cCl c (lid c (r + 8) (cnt s 64)) = 16 := by
  have h0 := h
  obtain ⟨hL, hfi, hn, hQ, hN, hOu, hOp, hOa, hOu2⟩ := h
  obtain ⟨hS, hC, hG, hLm, hM, hU, hV, hI, hF, hA, hB⟩ := hQ
  have hu := hI.1.2.1
  generalize hgu : cnt s 64 = u at hu hN' h200 ⊢
  have hcu : cCl c (lid c (r + 8) u) = 16 := (hU.2.1.2 u (by omega)).2
  have hUu := hU.2.2 u hu
  obtain ⟨_, _, _, _, _, u39, ⟨u46, u8⟩, _⟩ := hUu
  have hch := vr_ch hn (lid c (r + 8) u) (ow s u) a
  have e1 := c_vadd 0 (a := a) hcu (hn _ (Nat.le_refl _)).1 u8
  have hncl := cC_cln e1 hn
  have hth := vrT_th s u b
  have hid := TH_refl [] [] [] [] s
  have hKC : KC r c (vrC c (lid c (r + 8) u) (ow s u) a) := KC_of hch hS (by show cSl c ≤ cSl c + _; omega) (by decide)
  obtain ⟨n1, n2, n3, n4, n5, n6⟩ := vrT_new s u b
  have old : ∀ v, v < cnt s 50 → tA (vrT s u b) 51 v = tA s 51 v ∧ tB (vrT s u b) 52 v = tB s 52 v ∧ tA (vrT s u b) 53 v = tA s 53 v ∧ tA (vrT s u b) 54 v = tA s 54 v := fun v hv => vrT_old s u b (by omega)
  have e50 := vrT_50 u b hV.1
  have c50 := cnt_of e50 (by omega)
  have o36 : ∀ k, tA (vrT s u b) 36 k = tA s 36 k := fun k => th_A hth (by decide) k
  have o39 : ∀ k, tA (vrT s u b) 39 k = tA s 39 k := fun k => th_A hth (by decide) k
  have e46 : tA (vrT s u b) 46 u = Int32.ofNat (ca s 46 u + 1) := by
    rw [n6, u46.1, show (1 : Int32) = Int32.ofNat 1 from rfl, z_add]
  have c46 := ca_of e46 (by omega)
  have how : ow (vrT s u b) u = ow s u + 1 := by
    unfold ow
    rw [o36, ca_eq (o39 u), c46]; omega
  have hvI : ∀ v, v < cnt s 50 → vI (vrT s u b) v = vI s v := fun v hv => by
    obtain ⟨o1, o2, o3, o4⟩ := old v hv
    unfold vI
    rw [ca_eq o3, o4, ca_eq o1, ca_eq (o39 _), o36]
  have hKT : KT s (vrT s u b) := ⟨fun x hx => by
    by_cases q : x = 50
    · rw [q, c50]; omega
    · rw [th_cnt hth (by simp only [List.mem_cons, List.not_mem_nil, or_false] at hx ⊢; omega)]; exact Nat.le_refl _, fun k _ => ⟨th_A hth (by decide) k, fun _ => th_A hth (by decide) k, th_A hth (by decide) k, by rw [th_ca hth (by decide)]; exact Nat.le_refl _, fun i _ => th_A hth (by decide) _⟩, fun v hv => ⟨(old v hv).1, hvI v hv, (old v hv).2.2.2, (old v hv).2.1⟩, fun k _ => th_B hth (by decide) k, fun k _ => th_A hth (by decide) k⟩
  have hvn : vI (vrT s u b) (cnt s 50) = ow s u := by
    unfold vI ow
    rw [ca_of n1 (by have := hU.1.2; omega), ca_eq (o39 _), o36, n4, if_neg (by decide), ca_of (n3.trans u46.1) (by have := u46.2; omega)]
    split <;> omega
  have hne : ∀ v, v < cnt s 50 → vo v ≠ cNx c := fun v hv q => by
    have := (hV.2.1 v hv).1
    rw [q, (hn _ (Nat.le_refl _)).1] at this
    cases this
  have hune : lid c (r + 8) u ≠ cNx c := fun q => by rw [q, (hn _ (Nat.le_refl _)).1] at hcu; cases hcu
  have hlid : ∀ k, lid (vrC c (lid c (r + 8) u) (ow s u) a) (r + 8) k = lid c (r + 8) k := fun _ => rfl
  have g1 : cCl (vrC c (lid c (r + 8) u) (ow s u) a) (cNx c) = 17 := by simp [vrC, nwC, gC]
  have g2 : cR (vrC c (lid c (r + 8) u) (ow s u) a) 1701 (cNx c) = .ref (lid c (r + 8) u) := by simp [vrC, nwC, gC]
  have g3 : cR (vrC c (lid c (r + 8) u) (ow s u) a) 1702 (cNx c) = .null := by simp [vrC, nwC, gC]
  have g4 : cI (vrC c (lid c (r + 8) u) (ow s u) a) 1703 (cNx c) = Int32.ofNat (ow s u) := by simp [vrC, nwC, gC]
  have hV1 := RVt_fr hch hid hS hU (by decide) hV
  have hV2 := RVt_var hV1 hU.1.2 (TH_wk (by decide) hth) e50 h500 (fun v hv => ⟨(old v hv).1, (old v hv).2.2.1, (old v hv).2.2.2⟩) hvI hu g1 g2 g3 (by rw [hvn]; exact g4) n1 (Or.inr n4) (aok_of (n3.trans u46.1) (by have := u46.2; omega) (by have := u46.2; omega)) hne
  refine ⟨⟨LX_ch hch hth rfl rfl (by decide) hL, hfi, hncl, ⟨RSt_fr hch (by decide) hS, RCt_fr hch hth hS (by decide) hC, RGt_fr hch hth hS (by decide) hG, RLt_fr hch hth hS (by decide) hLm, RMt_fr hch hth hS (by decide) (by decide) hM, ⟨hU.1, lsr_fr hch (RSt_uL hS) (by decide) (by decide) (by decide) hU.2.1, fun k hk => ?_⟩, hV2, RIt_var (RIt_fr hch hid hS hV (by decide) hI) (TH_wk (by decide) hth) (by omega) (fun v hv => ⟨(old v hv).1, (old v hv).2.1⟩) (fun v hv => if_neg (by omega)), RFt_fr hch hth hS hU (by decide) hF, RAt_fr hch hth hS (by decide) hA, ?_⟩, hN', hOu, hOp, hOa, hOu2⟩, hKC, hKT, ⟨g1, g2, by omega, Or.inl ⟨g3, n1, by rw [hvn]; exact g4⟩⟩, u8, hcu⟩
  · have hck := (hU.2.1.2 k (by show k < cnt s 35; exact hk)).2
    rw [hlid]
    refine uOK_fr2 hch hth hS (by decide) hck (hU.2.2 k hk) ?_ ?_
    · obtain ⟨_, _, _, _, _, k39, _, _⟩ := hU.2.2 k hk
      rw [aok_eq (o39 k), o39, ch_I hch hck (by decide) (by decide)]; exact k39
    · by_cases q : k = u
      · rw [q, how]
        exact ⟨aok_of e46 (by omega) h200, by simp [vrC, nwC, gC, hune]⟩
      · obtain ⟨_, _, _, _, _, _, ⟨k46, k8⟩, _⟩ := hU.2.2 k hk
        have hl : lid c (r + 8) k ≠ lid c (r + 8) u := fun w => q (u_inj h0 hk hu w)
        have hkne : lid c (r + 8) k ≠ cNx c := fun q => by rw [q, (hn _ (Nat.le_refl _)).1] at hck; cases hck
        have : ow (vrT s u b) k = ow s k := by
          unfold ow
          rw [o36, ca_eq (o39 k), ca_eq (vrT_46 s u b q)]
        rw [aok_eq (vrT_46 s u b q), this]
        exact ⟨k46, by rw [← k8]; simp [vrC, nwC, gC, hl]⟩
  · exact RBt_mono hKC hKT hU.2.1.1 (fun v hv => (hV.2.1 v hv).2.2.1) (th_cnt hth (by decide)) (by rw [th_cnt hth (by decide)]; exact Nat.le_refl _) (fun k hk _ => ch_R hch (RUt_cap hU hk).2.2.2 (by decide) (by decide)) (fun k _ _ => th_A hth (by decide) k) (fun y _ _ z hz => th_A hth (by simp only [List.mem_cons, List.not_mem_nil, or_false] at hz ⊢; omega) y) hB
theorem RNt_pay {O' f' : Nat} {s' : tS} (hN : RNt O f s) (hf : f + O ≤ f' + O') (hO : O' ≤ O) (ht : TH [8, 9, 10, 11, 14, 15] [12] [] [13] s s') : RNt O' f' s' := by
  obtain ⟨Lt, h1, h2, h3, h4⟩ := hN
  refine ⟨Lt, ?_, ?_, by omega, ?_⟩
  · rw [th_cnt ht (by decide)]
    intro k hk
    rw [th_ca ht (by decide)]; exact h1 k hk
  · rw [th_cnt ht (by decide), th_cnt ht (by decide)]; exact h2
  · rw [th_cnt ht (by decide)]; omega
/-- the reference binds the name at hand -/
theorem t_binds (d : Nat) {u : Nat} (hfi : tI s 6 = 0) (h8 : tI s 8 = 1) (h12 : cok s 56 12) (hlt : cnt s 56 < 12) (h64 : tI s 64 = Int32.ofNat u) (h50 : tI s 50 = Int32.ofNat (cnt s 50)) (hb : cnt s 50 < 500) :
    cT (d + 4) 48 [eR (.ref 0), eI (tA s 46 u)] (tsA s 46 u (tA s 46 u + 1)) = (bV (cT (d + 3) 6 [eR (.ref 0)] (vrT s u (tL s 12))) fun h => some (.inl none, h)) := by
  have hne : ¬ tI s 56 = (12 : Int32) := by
    rw [show (12 : Int32) = Int32.ofNat 12 from rfl, cok_eq h12 (by decide) (by decide)]; omega
  rw [kX7_binds, uX7_binds, t_isName]
  have a1 : tI (tsA s 46 u (tA s 46 u + 1)) 6 = 0 := hfi
  have a2 : tI (tsA s 46 u (tA s 46 u + 1)) 8 = 1 := h8
  have a3 : tI (tsA s 46 u (tA s 46 u + 1)) 56 = tI s 56 := rfl
  rw [if_pos a1, if_pos a2, b_I, if_neg (by decide), a3, if_neg hne]
  have a4 : tI (tsA s 46 u (tA s 46 u + 1)) 64 = Int32.ofNat u := h64
  have a5 : tL (tsA s 46 u (tA s 46 u + 1)) 12 = tL s 12 := rfl
  rw [a4, a5, kX7_newVariable, uX7_newVariable]
  simp only [rT, bB, eq_self, if_true, if_false, true_and, and_true, false_and, and_false, or_true, true_or, or_false, false_or, reduceIte, Nat.reduceEqDiff, not_true_eq_false, not_false_eq_true]
  have a6 : tI (tsA s 46 u (tA s 46 u + 1)) 50 = Int32.ofNat (cnt s 50) := h50
  rw [a6, qs_51 hb, qs_52 hb, qs_53 hb, qs_54 hb _ _ (Or.inr rfl)]
  simp only [rT, bB, eq_self, if_true, if_false, true_and, and_true, false_and, and_false, or_true, true_or, or_false, false_or, reduceIte, Nat.reduceEqDiff, not_true_eq_false, not_false_eq_true]
  unfold vrT
  rw [h50]
end
