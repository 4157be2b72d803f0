set_option maxRecDepth 100000
set_option maxHeartbeats 4000000
/-! D94: an asking: its object -/
theorem nthS : ∀ (l : List Value) (i j : Nat) (v : Value), i < l.length → nthD .null (l.set i v) j = if j = i then v else nthD .null l j
  | [], i, _, _, h => absurd h (Nat.not_lt_zero _)
  | _ :: l, 0, 0, v, _ => by rw [if_pos rfl]; rfl
  | _ :: l, 0, j + 1, v, _ => by rw [if_neg (by omega)]; rfl
  | _ :: l, i + 1, 0, v, _ => by rw [if_neg (by omega)]; rfl
  | _ :: l, i + 1, j + 1, v, h => by
    have := nthS l i j v (Nat.lt_of_succ_lt_succ h)
    show nthD .null (l.set i v) j = _
    rw [this]
    show _ = if j + 1 = i + 1 then v else nthD .null l j
    by_cases q : j = i
    · rw [if_pos q, if_pos (by omega)]
    · rw [if_neg q, if_neg (by omega)]
section
variable {c : cS}
theorem c_set (d : Nat) {a k i : Nat} (e : cCl c a = k) (hk : cak k = 9) (hi : i < (cLs c a).length) (hb : i < 2147483648) (v : Value) : cC (d + 9) 9106 [eR (.ref a), eI (Int32.ofNat i), eR v] c = some (.inl (some (eR (nthD .null (cLs c a) i))), csLs c a ((cLs c a).set i v)) := by
  rw [pq_set]; unfold clset
  have h : ¬ (Int32.ofNat i < 0 ∨ (cLs c a).length ≤ i) := by rintro (q | q); exact ofNat_nn hb q; omega
  simp only [z_nat hb, cisL_of e hk, h, not_false_eq_true, and_self, if_true]
  rfl
/-- an asking's object -/
def asC (c : cS) (a : Nat) (n b : Int32) (R : Value) : cS := csR (csI (csI c 2900 a n) 2901 a b) 2902 a R
theorem c_as (d : Nat) {a R : Nat} {n b : Int32} (ha : cCl c a = 29) (hb : b = 0 ∨ b = 1) : cC (d + 11) 2900 [eR (.ref a), eI n, eI b, eR (.ref R)] c = some (.inl none, asC c a n b (.ref R)) := by
  rw [kX29_init, r_cck, if_pos ha, uX29_init, kX18_init, uX18_init]
  simp only [pP, ha, hb, show misR (.ref R) = true from rfl, rC, bB, Nat.reduceDiv, Nat.reduceLeDiff, Nat.reduceLT,  eq_self, if_true, if_false, true_and, and_true, false_and, and_false, or_true, true_or, or_false, false_or, reduceIte, reduceCtorEq, Nat.reduceEqDiff, not_true_eq_false, not_false_eq_true, r_misN, r_misR, gC]
  rfl
end
section
variable {χ : Nat → Int32} {n t r p f p1 f1 : Nat} {vo vo1 : Nat → Nat} {Op Oa Ou Op1 Oa1 Oa' : Nat → Prop} {E O O1 : Nat} {c c1 : cS} {s s1 : tS} {m : Nat}
theorem P_askG (dc dt : Nat) {b : Int64} {k : Int32} (hk : k = 0 ∨ k = 1) (hR1 : RP χ n t r p1 f1 vo1 Op1 Oa1 Ou E O1 c1 s1) (hR : RP χ n t r p f vo Op Oa Ou E O c s) (hA : aB r c1 s1 c s m) (hnull : nthD .null (cLs c (r + 11)) m = .null) (h49 : nm b (tB s 49 m)) (h136 : tA s 136 m = 0) (hO1 : ∀ j, ¬ Oa' j → ¬ Oa j ∨ j = m) (hO2 : ∀ j, Oa' j → j < cnt s 48) (hO3 : ∀ j, Oa' j → j ≠ m → Oa j) :
    (∃ a c' s' q pl, (∀ K : Value → cS → cRes, (cnw c 29 fun v20 h21 => cnw h21 14 fun v22 h23 => bR (cC (dc + 30) 808 [eR (.ref r)] h23) fun v25 h24 => bV (cC (dc + 30) 1401 [eR v22, eL b, eR v25] h24) fun h26 => bV (cC (dc + 30) 2900 [eR v20, eI (Int32.ofNat m), eI k, eR v22] h26) fun h27 => cgR h27 801 (.ref r) fun v28 => cgR h27 905 v28 fun v29 => bR (cC (dc + 30) 9106 [eR v29, eI (Int32.ofNat m), eR v20] h27) fun _ h30 => K v20 h30) = some (.inr (.ref a), c')) ∧ cT (dt + 30) 23 [eR (.ref 0), eI (Int32.ofNat (240 + m)), eI 1] s = some (.inl none, s') ∧ thr c' a q pl ∧ tI s' 6 = q ∧ tI s' 7 = pl ∧ q ≠ 0 ∧ cNx c' ≤ cNx c + 10 ∧ cSl c' ≤ cSl c + 60) ∨
    ∃ c' s' p' f', (∀ K : Value → cS → cRes, (cnw c 29 fun v20 h21 => cnw h21 14 fun v22 h23 => bR (cC (dc + 30) 808 [eR (.ref r)] h23) fun v25 h24 => bV (cC (dc + 30) 1401 [eR v22, eL b, eR v25] h24) fun h26 => bV (cC (dc + 30) 2900 [eR v20, eI (Int32.ofNat m), eI k, eR v22] h26) fun h27 => cgR h27 801 (.ref r) fun v28 => cgR h27 905 v28 fun v29 => bR (cC (dc + 30) 9106 [eR v29, eI (Int32.ofNat m), eR v20] h27) fun _ h30 => K v20 h30) = K (.ref (cNx c)) c') ∧ cT (dt + 30) 23 [eR (.ref 0), eI (Int32.ofNat (240 + m)), eI 1] s = some (.inl none, s') ∧ RP χ n t r p' f' vo Op Oa' Ou E O c' s' ∧ aB r c1 s1 c' s' m ∧ KC r c c' ∧ KT s s' ∧ TH [8, 9, 10, 11, 14, 15] [12] [18, 19] [13, 17] s s' ∧ f < f' ∧ p ≤ f' ∧ cNx c' ≤ cNx c + 8 ∧ cSl c' ≤ cSl c + 60 ∧ (∀ b, raw c b → raw c' b) ∧
      cCl c' (cNx c) = 29 ∧ cI c' 2901 (cNx c) = k ∧ cI c' 2900 (cNx c) = Int32.ofNat m ∧ cR c' 2903 (cNx c) = .null ∧ nthD .null (cLs c' (r + 11)) m = .ref (cNx c) := by
  have h0 := hR
  obtain ⟨hL, hfi, hn, hQ, hN', hOu, hOp, hOa, hOu2⟩ := hR
  obtain ⟨hS, hC, hG, hLm, hM, hU, hV, hI, hF, hAt, hB⟩ := hQ
  have hm48 : m < cnt s 48 := hA.2.2.2.2.2.2.2
  have h24 := hAt.1.2
  have haL := RSt_aL hS
  have hlen := hAt.2.1
  have hst := hL.1.2.2.2.1.2.1
  have hnw1 : cmore (csCl c (cNx c) 29) (csz 29) = nwC c 29 := rfl
  have hnw2 : cmore (csCl (nwC c 29) (cNx (nwC c 29)) 14) (csz 14) = nwC (nwC c 29) 14 := rfl
  have hx1 : cNx (nwC c 29) = cNx c + 1 := rfl
  have hchn1 := nw_ch hn 29
  have hn1 : CLN (nwC c 29) := CLN_new hn
  have hchn2 := nw_ch hn1 14
  have hnn : CLN (nwC (nwC c 29) 14) := CLN_new hn1
  have hchn := CH_trans (by decide) hchn1 hchn2
  have hLn : LX χ n (r + 16) t 4 (r + 19) (r + 17) p f (nwC (nwC c 29) 14) s := LX_ch hchn (TH_refl [] [] [] [] s) rfl rfl (by decide) hL
  have hrn : cCl (nwC (nwC c 29) 14) r = 8 := ch_cl hchn hS.1 (by decide)
  have ha0 : cCl c (cNx c) = 0 := (hn _ (Nat.le_refl _)).1
  have ha1 : cCl c (cNx c + 1) = 0 := (hn _ (by omega)).1
  have k0 : cCl (nwC (nwC c 29) 14) (cNx c) = 29 := by
    show cCl (csCl (nwC c 29) (cNx c + 1) 14) (cNx c) = 29
    rw [g_Cl_Cl, if_neg (by omega)]; exact nw_cl c 29
  have k1 : cCl (nwC (nwC c 29) 14) (cNx c + 1) = 14 := nw_cl (nwC c 29) 14
  have z1 : cNx (nwC (nwC c 29) 14) = cNx c + 2 := rfl
  have z2 : cSl (nwC (nwC c 29) 14) = cSl c + csz 29 + csz 14 := rfl
  have z3 : csz 29 + csz 14 ≤ 20 := by decide
  rcases J_place (dc + 8) (dt + 9) (q := 240 + m) (by omega) hrn hS.2.1 hLn hfi with ⟨a9, c9, s9, k9, pl9, v1, v2, v3, v4, v5, v6, v7, v8⟩ | ⟨h4, h15, P, c6, s8, p8, f8, e7, e8, l, tl, hok, hP, hgs, hl5, htl, h14, h15', h13⟩
  · left
    have v1' : cC (dc + 30) 808 [eR (.ref r)] (nwC (nwC c 29) 14) = _ := v1
    refine ⟨a9, c9, s9, k9, pl9, fun K => ?_, v2, v3, v4, v5, v6, by omega, by omega⟩
    rw [r_cnw, hnw1, r_cnw, hnw2, v1', b_Rx]
  · right
    obtain ⟨hX6, hp6, hfi8, h78, hF6, hG8, _⟩ := hok
    have e7' : cC (dc + 30) 808 [eR (.ref r)] (nwC (nwC c 29) 14) = _ := e7
    have hstn : cCl (nwC (nwC c 29) 14) (r + 17) = 6009 := ch_cl hchn hst (by decide)
    have hch6 := CH_of_LF hF6 hnn (by rw [hstn]; decide)
    have hn6 : CLN c6 := cC_cln e7 hnn
    have hthg := TH_of_LF hG8
    have hkp := kp_th s (240 + m) l.length
    have c0 : cCl c6 (cNx c) = 29 := ch_cl hch6 k0 (by decide)
    have c14 : cCl c6 (cNx c + 1) = 14 := ch_cl hch6 k1 (by decide)
    have e11 := c_rg (dc + 19) (a := cNx c + 1) (P := P) (b := b) c14
    have hn7 : CLN (csR (csL c6 1400 (cNx c + 1) b) 1401 (cNx c + 1) (.ref P)) := cC_cln e11 hn6
    have e12 := c_as (dc + 19) (c := csR (csL c6 1400 (cNx c + 1) b) 1401 (cNx c + 1) (.ref P)) (a := cNx c) (R := cNx c + 1) (n := Int32.ofNat m) (b := k) c0 hk
    have hn8 := cC_cln e12 hn7
    have hnl0 : ¬ live c (cNx c) := fun q => q.1 ha0
    have hnl1 : ¬ live c (cNx c + 1) := fun q => q.1 ha1
    have hch03 : CH [1003, 1004, 1005, 1006] [1007] [1008] [] c c6 := CH_trans (by decide) (CH_wk (by decide) hchn) hch6
    have hch04 : CH [1003, 1004, 1005, 1006] [1007] [1008] [] c (asC (csR (csL c6 1400 (cNx c + 1) b) 1401 (cNx c + 1) (.ref P)) (cNx c) (Int32.ofNat m) k (.ref (cNx c + 1))) := CH_R (Or.inr hnl0) (CH_I (Or.inr hnl0) (CH_I (Or.inr hnl0) (CH_R (Or.inr hnl1) (CH_L (Or.inr hnl1) hch03))))
    have hch68 : CH [2900, 2901] [1400] [1401, 2902] [] c6 (asC (csR (csL c6 1400 (cNx c + 1) b) 1401 (cNx c + 1) (.ref P)) (cNx c) (Int32.ofNat m) k (.ref (cNx c + 1))) := CH_R (Or.inl (by simp)) (CH_I (Or.inl (by simp)) (CH_I (Or.inl (by simp)) (CH_R (Or.inl (by simp)) (CH_L (Or.inl (by simp)) (CH_refl _ _ _ _ c6)))))
    have d1 : cI (asC (csR (csL c6 1400 (cNx c + 1) b) 1401 (cNx c + 1) (.ref P)) (cNx c) (Int32.ofNat m) k (.ref (cNx c + 1))) 2900 (cNx c) = Int32.ofNat m := by simp [asC, gC]
    have d2 : cI (asC (csR (csL c6 1400 (cNx c + 1) b) 1401 (cNx c + 1) (.ref P)) (cNx c) (Int32.ofNat m) k (.ref (cNx c + 1))) 2901 (cNx c) = k := by simp [asC, gC]
    have d3 : cR (asC (csR (csL c6 1400 (cNx c + 1) b) 1401 (cNx c + 1) (.ref P)) (cNx c) (Int32.ofNat m) k (.ref (cNx c + 1))) 2902 (cNx c) = .ref (cNx c + 1) := by simp [asC, gC]
    have d4 : cL (asC (csR (csL c6 1400 (cNx c + 1) b) 1401 (cNx c + 1) (.ref P)) (cNx c) (Int32.ofNat m) k (.ref (cNx c + 1))) 1400 (cNx c + 1) = b := by simp [asC, gC]
    have d5 : cR (asC (csR (csL c6 1400 (cNx c + 1) b) 1401 (cNx c + 1) (.ref P)) (cNx c) (Int32.ofNat m) k (.ref (cNx c + 1))) 1401 (cNx c + 1) = .ref P := by simp [asC, gC]
    have d6 : cR (asC (csR (csL c6 1400 (cNx c + 1) b) 1401 (cNx c + 1) (.ref P)) (cNx c) (Int32.ofNat m) k (.ref (cNx c + 1))) 2903 (cNx c) = .null := by
      have q1 : cR c6 2903 (cNx c) = .null := by
        obtain ⟨_, _, _, _, _, _, _, y8, _⟩ := id hF6
        rw [y8 2903 _ (by decide) (by decide)]
        exact ((hn _ (Nat.le_refl _)).2.1 2903 (by decide)).2.2
      simp [asC, gC, q1]
    have d7 : cCl (asC (csR (csL c6 1400 (cNx c + 1) b) 1401 (cNx c + 1) (.ref P)) (cNx c) (Int32.ofNat m) k (.ref (cNx c + 1))) (cNx c) = 29 := c0
    have d8 : cCl (asC (csR (csL c6 1400 (cNx c + 1) b) 1401 (cNx c + 1) (.ref P)) (cNx c) (Int32.ofNat m) k (.ref (cNx c + 1))) (cNx c + 1) = 14 := c14
    have d9 : cNx (asC (csR (csL c6 1400 (cNx c + 1) b) 1401 (cNx c + 1) (.ref P)) (cNx c) (Int32.ofNat m) k (.ref (cNx c + 1))) = cNx c6 ∧ cSl (asC (csR (csL c6 1400 (cNx c + 1) b) 1401 (cNx c + 1) (.ref P)) (cNx c) (Int32.ofNat m) k (.ref (cNx c + 1))) = cSl c6 := ⟨rfl, rfl⟩
    have d10 : cAI (asC (csR (csL c6 1400 (cNx c + 1) b) 1401 (cNx c + 1) (.ref P)) (cNx c) (Int32.ofNat m) k (.ref (cNx c + 1))) = cAI c6 ∧ cAL (asC (csR (csL c6 1400 (cNx c + 1) b) 1401 (cNx c + 1) (.ref P)) (cNx c) (Int32.ofNat m) k (.ref (cNx c + 1))) = cAL c6 := ⟨rfl, rfl⟩
    have hraw3 : ∀ q, raw c q → raw c6 q := fun q z => raw_LF hF6 hnn q (nw_raw hn1 14 q (nw_raw hn 29 q z))
    have hraw8 : ∀ q, raw c q → raw (asC (csR (csL c6 1400 (cNx c + 1) b) 1401 (cNx c + 1) (.ref P)) (cNx c) (Int32.ofNat m) k (.ref (cNx c + 1))) q := raw_R ha0 (raw_I (raw_I (raw_R ha1 (raw_L hraw3))))
    generalize asC (csR (csL c6 1400 (cNx c + 1) b) 1401 (cNx c + 1) (.ref P)) (cNx c) (Int32.ofNat m) k (.ref (cNx c + 1)) = c8 at *
    have l8 : cLs c8 (r + 11) = cLs c (r + 11) := ch_Ls hch04 haL (by decide) (by decide)
    have hS8 := RSt_fr hch04 (by decide) hS
    have ha8 := RSt_aL hS8
    have e13 := c_set (dc + 21) (c := c8) (a := r + 11) (i := m) ha8 rfl (by rw [l8, hlen]; exact hm48) (by omega) (.ref (cNx c))
    have hLA := LA_Ls c8 (r + 11) ((cLs c8 (r + 11)).set m (.ref (cNx c)))
    have hn9 := cC_cln e13 hn8
    have hch89 := LA_ch hLA ha8
    have hch : CH [1003, 1004, 1005, 1006] [1007] [1008] [5905] c (csLs c8 (r + 11) ((cLs c8 (r + 11)).set m (.ref (cNx c)))) := CH_trans (by decide) (CH_c1 hch04) (CH_c2 hch89)
    have hch69 : CH [2900, 2901] [1400] [1401, 2902] [5905] c6 (csLs c8 (r + 11) ((cLs c8 (r + 11)).set m (.ref (cNx c)))) := CH_trans (by decide) (CH_c1 hch68) (CH_c2 hch89)
    have hn9l : ∀ j, nthD .null (cLs (csLs c8 (r + 11) ((cLs c8 (r + 11)).set m (.ref (cNx c)))) (r + 11)) j = if j = m then .ref (cNx c) else nthD .null (cLs c (r + 11)) j := fun j => by
      rw [g_Ls_Ls, if_pos rfl, nthS _ _ _ _ (by rw [l8, hlen]; exact hm48), l8]
    have hlen9 : (cLs (csLs c8 (r + 11) ((cLs c8 (r + 11)).set m (.ref (cNx c)))) (r + 11)).length = cnt s 48 := by
      rw [g_Ls_Ls, if_pos rfl, List.length_set, l8, hlen]
    have hls9 : ∀ a, a ≠ r + 11 → cLs (csLs c8 (r + 11) ((cLs c8 (r + 11)).set m (.ref (cNx c)))) a = cLs c8 a := fun a ha => by rw [g_Ls_Ls, if_neg ha]
    have hrun : ∀ K : Value → cS → cRes, (cnw c 29 fun v20 h21 => cnw h21 14 fun v22 h23 => bR (cC (dc + 30) 808 [eR (.ref r)] h23) fun v25 h24 => bV (cC (dc + 30) 1401 [eR v22, eL b, eR v25] h24) fun h26 => bV (cC (dc + 30) 2900 [eR v20, eI (Int32.ofNat m), eI k, eR v22] h26) fun h27 => cgR h27 801 (.ref r) fun v28 => cgR h27 905 v28 fun v29 => bR (cC (dc + 30) 9106 [eR v29, eI (Int32.ofNat m), eR v20] h27) fun _ h30 => K v20 h30) = K (.ref (cNx c)) (csLs c8 (r + 11) ((cLs c8 (r + 11)).set m (.ref (cNx c)))) := fun K => by
      rw [r_cnw, hnw1, r_cnw, hnw2, e7', b_R, hx1, e11, b_V, e12, b_V, r_cgR, if_pos hS8.1, hS8.2.2.1, r_cgR, if_pos hS8.2.2.2.2.1, hS8.2.2.2.2.2.1.2.2.2.2.2.1, e13, b_R]
    have hx9 : cNx (csLs c8 (r + 11) ((cLs c8 (r + 11)).set m (.ref (cNx c)))) = cNx c8 ∧ cSl (csLs c8 (r + 11) ((cLs c8 (r + 11)).set m (.ref (cNx c)))) = cSl c8 ∧ cI (csLs c8 (r + 11) ((cLs c8 (r + 11)).set m (.ref (cNx c)))) = cI c8 ∧ cL (csLs c8 (r + 11) ((cLs c8 (r + 11)).set m (.ref (cNx c)))) = cL c8 ∧ cR (csLs c8 (r + 11) ((cLs c8 (r + 11)).set m (.ref (cNx c)))) = cR c8 ∧ cAI (csLs c8 (r + 11) ((cLs c8 (r + 11)).set m (.ref (cNx c)))) = cAI c8 ∧ cAL (csLs c8 (r + 11) ((cLs c8 (r + 11)).set m (.ref (cNx c)))) = cAL c8 ∧ cCl (csLs c8 (r + 11) ((cLs c8 (r + 11)).set m (.ref (cNx c)))) = cCl c8 ∧ cLen (csLs c8 (r + 11) ((cLs c8 (r + 11)).set m (.ref (cNx c)))) = cLen c8 := ⟨rfl, rfl, rfl, rfl, rfl, rfl, rfl, rfl, rfl⟩
    generalize csLs c8 (r + 11) ((cLs c8 (r + 11)).set m (.ref (cNx c))) = c9 at *
    obtain ⟨x1, x2, x3, x4, x5, x6, x7, x8, x9⟩ := hx9
    obtain ⟨w1, w2, w3, w4, _⟩ := id hF6
    have hth : TH [8, 9, 10, 11, 14, 15] [12] [18, 19] [13, 17] s s8 := by
      refine ⟨fun x hx => ?_, fun x hx => ?_, fun x j hx => ?_, fun x j hx => ?_⟩
      · rw [th_I hthg hx, kp_I]
      · rw [hthg.2.1 x hx, kp_L]
      · rw [th_A hthg (by simp), th_A hkp hx]
      · simp only [List.mem_cons, List.not_mem_nil, or_false, not_or] at hx
        rw [th_B hthg (by simpa using hx.1), th_B hkp (by simpa using hx.2)]
    have hEx : ∀ q, q ≠ 240 + m → pU s s8 q := fun q hq => by
      obtain ⟨k1, k2, k3⟩ := kp_old s (q := 240 + m) (n := l.length) hq (by omega)
      exact ⟨by rw [th_A hthg (by decide), k1], by rw [th_A hthg (by decide), k2], fun i hi => by rw [th_B hthg (by decide), k3 i hi]⟩
    have hKC8 : KC r c c8 := KC_of hch04 hS (by omega) (by decide)
    have hKC9 : KC r c8 c9 := by
      refine ⟨by omega, by omega, fun q _ => ⟨by rw [x8], by rw [x9]⟩, fun x q _ _ => by rw [x3], fun x q _ _ => by rw [x4], fun x q _ _ _ => by rw [x5], fun q hq _ => hls9 q (by rintro rfl; rcases hq with z | z <;> rw [ha8] at z <;> exact absurd z (by decide)), ⟨fun q j _ => by rw [x7], fun q i hq hi => ?_, fun q _ z => by rw [x3]; exact z⟩, fun i _ => by unfold lid; rw [hls9 (r + 8) (by omega)]⟩
      by_cases e : q = r + 11
      · rw [e] at hi ⊢
        rw [l8] at hi ⊢
        refine ⟨by rw [hlen9, ← hlen]; exact hi, fun z => ?_⟩
        rw [hn9l, if_neg (by rintro rfl; exact z hnull)]
      · rw [hls9 q e]; exact ⟨hi, fun _ => rfl⟩
    have hKC : KC r c c9 := KC_trans (by rw [ch_Ls hch04 (RSt_uL hS) (by decide) (by decide)]; exact Nat.le_refl _) hKC8 hKC9
    have hKT : KT s s8 := KT_of hth (by decide)
    have haB := aB_go hR1 h0 hA hKC hKT hch hth (by decide) (fun y _ z hz => th_A hth (by simp only [List.mem_cons, List.not_mem_nil, or_false] at hz ⊢; omega) y)
    have hX9 : LX χ n (r + 16) t 4 (r + 19) (r + 17) p8 f8 c9 s8 := LX_ch hch69 (TH_refl [] [] [] [] s8) (by rw [x6, d10.1]) (by rw [x7, d10.2]) (by decide) hX6
    have hPc : PT c9 P l tl := PT_fr hch69 (by decide) (by decide) (PT_fr hch6 (by decide) (by decide) hP)
    have hff : f < f8 := by
      have := lw_lt hL.2.2.2.2.2 (by rw [h4]; decide)
      omega
    refine ⟨c9, s8, p8, f8, hrun, e8, ⟨hX9, hfi8, hn9, ⟨RSt_fr hch (by decide) hS, RCt_fr hch hth hS (by decide) hC, RGt_ix hch hth hS (by decide) (fun q _ _ => hEx q (by omega)) (fun j _ => th_A hth (by decide) j) (fun j _ => th_B hth (by decide) j) hG, RLt_ix hch hth hS (by decide) (fun q _ _ => hEx q (by omega)) (fun j _ => th_A hth (by decide) j) (fun j _ => th_B hth (by decide) j) hLm, RMt_ix hch hth hS (by decide) (by decide) (fun q _ => hEx q (by omega)) hM, RUt_fr hch hth hS (by decide) (by decide) hU, RVt_fr hch hth hS hU (by decide) hV, RIt_fr hch hth hS hV (by decide) hI, RFt_fr hch hth hS hU (by decide) hF, ⟨by rw [th_cok hth (by decide)]; exact hAt.1, by rw [hlen9, th_cnt hth (by decide)], fun j hj => ?_⟩, aB_RBt hR1 haB⟩, ?_, by rw [th_cnt hth (by decide)]; exact hOu, fun y hy => by rw [th_ca hth (by decide), th_cnt hth (by decide)]; exact hOp y hy, fun j hj => by rw [th_cnt hth (by decide)]; exact hO2 j hj, fun j hj => by rw [th_cnt hth (by decide)]; exact hOu2 j hj⟩, haB, hKC, hKT, hth, hff, hp6, by omega, by omega, fun q z => LA_raw hLA ha8 (by decide) q (hraw8 q z), by rw [x8]; exact d7, by rw [x3]; exact d2, by rw [x3]; exact d1, by rw [x5]; exact d6, by rw [hn9l, if_pos rfl]⟩
    · rw [th_cnt hth (by decide)] at hj
      by_cases e : j = m
      · have hN := hn9l j
        rw [if_pos e] at hN
        rw [lid_at hN, hN, x3, x4, x5, x8]
        obtain ⟨q1, q2, q3⟩ := kp_new s (240 + m) l.length
        refine ⟨fun _ => ⟨rfl, d7, by rw [d1, e], by rw [d2]; exact hk, cNx c + 1, P, d3, d8, by rw [d4, e, th_B hth (by decide)]; exact h49, d5, ⟨l, tl, hPc, hgs, by omega, htl, ?_, ?_, fun i hi => ?_⟩, ?_⟩, fun _ => ⟨fun z => (by cases z), Or.inl ⟨by rw [e, th_A hth (by decide)]; exact h136, d6⟩⟩, fun _ _ => d6⟩
        · rw [e, th_A hthg (by decide), q1]; exact h14
        · rw [e, th_A hthg (by decide), q2]; exact h15'
        · rw [e, th_B hthg (by decide), q3 i hi]; exact h13 i hi
        · rw [e, th_A hthg (by decide), q2]; exact h15
      · have hN := hn9l j
        rw [if_neg e] at hN
        obtain ⟨g, o, v⟩ := hAt.2.2 j hj
        rw [lid_eq hN, hN]
        refine ⟨fun z => ?_, fun z => ?_, fun z z2 => by rw [ch_R hch (g z2).2.1 (by decide) (by decide)]; exact v (hO3 j z e) z2⟩
        · obtain ⟨e1, e2, e3, e4, R, P', y1, y2, y3, y4, y5, y6⟩ := g z
          exact ⟨e1, ch_cl hch e2 (by decide), by rw [ch_I hch e2 (by decide) (by decide)]; exact e3, by rw [ch_I hch e2 (by decide) (by decide)]; exact e4, R, P', by rw [ch_R hch e2 (by decide) (by decide)]; exact y1, ch_cl hch y2 (by decide), by rw [ch_L hch y2 (by decide) (by decide), th_B hth (by decide)]; exact y3, by rw [ch_R hch y2 (by decide) (by decide)]; exact y4, pOK_ix hch (by decide) (by decide) (hEx _ (by omega)) y5, (hEx _ (by omega)).2.1.trans y6⟩
        · have z' : ¬ Oa j := by rcases hO1 j z with w | w; exact w; exact absurd w e
          obtain ⟨o1, o2⟩ := o z'
          have e2 := (g o1).2.1
          refine ⟨o1, ?_⟩
          rw [th_A hth (by decide), ch_R hch e2 (by decide) (by decide)]
          rcases o2 with o2 | ⟨u1, o', u2, u3⟩
          · exact Or.inl o2
          · exact Or.inr ⟨u1, o', u2, by rw [ch_cl hch rfl u3]; exact u3⟩
    · obtain ⟨Lt, l1, l2, l3, l4⟩ := hN'
      exact ⟨Lt, fun j hj => by rw [th_ca hth (by decide)]; exact l1 j (by rw [th_cnt hth (by decide)] at hj; exact hj), by rw [th_cnt hth (by decide), th_cnt hth (by decide)]; exact l2, by omega, by rw [th_cnt hth (by decide)]; exact l4⟩
end
