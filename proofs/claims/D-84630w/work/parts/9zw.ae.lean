set_option maxRecDepth 100000
set_option maxHeartbeats 4000000
/-! D97: an asking, its end -/
section
theorem TR_cl {r : Nat} {c : cS} {s : tS} {Q : Nat → Prop} : ∀ g u H D a x W, TR g Q r c s u H D a x W → cCl c a ≠ 0 := by
  intro g u H D a x W h
  cases g with
  | zero => exact absurd h (by unfold TR; exact id)
  | succ g =>
    unfold TR at h
    rcases h with ⟨h1, _⟩ | ⟨_, _, _, _, _, _, h⟩
    · rw [h1]; decide
    · rcases h with h | h | h | h | h | h | h | h | h | h | h | h | h | h <;> (rw [h.1]; decide)
end
section
variable {χ : Nat → Int32} {n t r p f m a0 a1 : Nat} {vo : Nat → Nat} {Op Oa Oa' Ou : Nat → Prop} {E O : Nat} {c : cS} {s : tS}
theorem P_2903 (h : RP χ n t r p f vo Op Oa' Ou E O c s) (hO1 : ∀ j, ¬ Oa j → ¬ Oa' j ∨ j = m) (hO2 : ∀ j, Oa j → Oa' j ∧ j ≠ m) (hl : nthD .null (cLs c (r + 11)) m = .ref a0) (hm : m < cnt s 48) (h03 : cR c 2903 a0 = .null) (h136 : tA s 136 m = 1) (ha1 : cCl c a1 ≠ 0) : RP χ n t r p f vo Op Oa Ou E O (csR c 2903 a0 (.ref a1)) s ∧ KC r c (csR c 2903 a0 (.ref a1)) := by
  obtain ⟨hL, hfi, hn, hQ, hN, hOu, hOp, hOa, hOu2⟩ := h
  obtain ⟨hS, hC, hG, hLm, hM, hU, hV, hI, hF, hAt, hB⟩ := hQ
  have h24 := hAt.1.2
  have hnz : (Value.ref a0) ≠ .null := fun z => by cases z
  have hch : CH [] [] [2903] [] c (csR c 2903 a0 (.ref a1)) := CH_R (Or.inl (by simp)) (CH_refl _ _ _ _ c)
  have hid := TH_refl [] [] [] [] s
  have g0 := (hAt.2.2 m hm).1 (by rw [hl]; exact hnz)
  rw [lid_at hl] at g0
  have hKC : KC r c (csR c 2903 a0 (.ref a1)) := by
    refine ⟨Nat.le_refl _, Nat.le_refl _, fun _ _ => ⟨rfl, rfl⟩, fun _ _ _ _ => rfl, fun _ _ _ _ => rfl, fun x b hx _ h9 => ?_, fun _ _ _ => rfl, ⟨fun _ _ _ => rfl, fun _ _ _ q => ⟨q, fun _ => rfl⟩, fun _ _ q => q⟩, fun _ _ => rfl⟩
    rw [g_R_R]
    by_cases q : x = 2903 ∧ b = a0
    · exact absurd (by rw [q.2]; exact h03) (h9 q.1)
    · rw [if_neg q]
  refine ⟨⟨LX_ch hch hid rfl rfl (by decide) hL, hfi, CLN_R (by rw [g0.2.1]) hn, ⟨RSt_fr hch (by decide) hS, RCt_fr hch hid hS (by decide) hC, RGt_fr hch hid hS (by decide) hG, RLt_fr hch hid hS (by decide) hLm, RMt_fr hch hid hS (by decide) (by decide) hM, RUt_fr hch hid hS (by decide) (by decide) hU, RVt_fr hch hid hS hU (by decide) hV, RIt_fr hch hid hS hV (by decide) hI, RFt_fr hch hid hS hU (by decide) hF, ⟨hAt.1, hAt.2.1, fun j hj => ?_⟩, RBt_mono hKC (KT_refl s) hU.2.1.1 (fun v hv => (hV.2.1 v hv).2.2.1) rfl (Nat.le_refl _) (fun k hk _ => ch_R hch (RUt_cap hU hk).2.2.2 (by decide) (by decide)) (fun _ _ _ => rfl) (fun _ _ _ _ _ => rfl) hB⟩, hN, hOu, hOp, fun j hj => hOa j (hO2 j hj).1, hOu2⟩, hKC⟩
  obtain ⟨g, o, v⟩ := hAt.2.2 j hj
  refine ⟨fun z => ?_, fun z => ?_, fun z z2 => ?_⟩
  · obtain ⟨e1, e2, e3, e4, R, P, y1, y2, y3, y4, y5, y6⟩ := g z
    exact ⟨e1, e2, e3, e4, R, P, (ch_R hch e2 (by decide) (by decide)).trans y1, y2, y3, (ch_R hch y2 (by decide) (by decide)).trans y4, pOK_fr hch hid (by decide) (by decide) (by decide) (by decide) y5, y6⟩
  · by_cases e : j = m
    · rw [e]
      refine ⟨by show nthD .null (cLs c (r + 11)) m ≠ _; rw [hl]; exact hnz, Or.inr ⟨h136, a1, ?_, ha1⟩⟩
      show cR (csR c 2903 a0 (.ref a1)) 2903 (lid c (r + 11) m) = _
      rw [lid_at hl, g_R_R, if_pos ⟨rfl, rfl⟩]
    · obtain ⟨o1, o2⟩ := o (by rcases hO1 j z with w | w; exact w; exact absurd w e)
      have hne : lid c (r + 11) j ≠ a0 := fun w => by
        have q := (g o1).2.2.1
        rw [w, g0.2.2.1, z_eq (by omega) (by omega)] at q
        exact e q.symm
      refine ⟨o1, ?_⟩
      show (tA s 136 j = 0 ∧ cR (csR c 2903 a0 (.ref a1)) 2903 (lid c (r + 11) j) = .null) ∨ (tA s 136 j = 1 ∧ ∃ o, cR (csR c 2903 a0 (.ref a1)) 2903 (lid c (r + 11) j) = .ref o ∧ cCl c o ≠ 0)
      rw [g_R_R, if_neg (fun w => hne w.2)]
      exact o2
  · obtain ⟨w1, w2⟩ := hO2 j z
    have hne : lid c (r + 11) j ≠ a0 := fun w => by
      have q := (g z2).2.2.1
      rw [w, g0.2.2.1, z_eq (by omega) (by omega)] at q
      exact w2 q.symm
    show cR (csR c 2903 a0 (.ref a1)) 2903 (lid c (r + 11) j) = .null
    rw [g_R_R, if_neg (fun w => hne w.2)]
    exact v w1 z2
end
section
variable {χ : Nat → Int32} {n t r : Nat} {Oa Ou : Nat → Prop} {O : Nat}
variable {f0 p0 f1 p1 p f : Nat} {vo0 vo : Nat → Nat} {Op : Nat → Prop} {E m kd H D a0 N lv : Nat} {c0 c1 c : cS} {s0 s1 s : tS} {k : Int32}
theorem J_askE (dc dt : Nat) (hH : 2 ≤ H) (hsub : ∀ Oa', SP χ n t r Oa' Ou O lv H D (dc + 30) 813 (dt + 30) 40) (hlv : cnt s0 63 = lv) (hkd : (kd = 25 ∧ k = 0) ∨ (kd = 26 ∧ k = 1)) (hp : p0 ≤ f)
    (hgo : ∀ (Oa' : Nat → Prop) (z : tS), RP χ n t r p f vo (fun y => Op y ∨ y = N) Oa' Ou (E + 60) O c z → aB r c1 s1 c z m → TH [] [] [136] [49] s z → BS χ n t r f0 vo Op Oa' Ou E 60 O c0 s0 N kd [] p f vo c z)
    (hz : (cLs c0 (r + 8)).length = cnt s0 35) (hR1 : RP χ n t r p1 f1 vo Op Oa Ou (E + 60) O c1 s1) (hA : aB r c1 s1 c s m) (hR : RP χ n t r p f vo (fun y => Op y ∨ y = N) Oa Ou (E + 60) O c s)
    (h12 : cI c 1612 (lid c (r + 8) (cnt s0 64)) = 1) (h29 : cCl c a0 = 29) (h01 : cI c 2901 a0 = k) (h00 : cI c 2900 a0 = Int32.ofNat m) (h03 : cR c 2903 a0 = .null) (hl : nthD .null (cLs c (r + 11)) m = .ref a0) (h68 : tA s 68 N = Int32.ofNat m) (h136 : tA s 136 m = 0) (hm : m < 24) :
    PX χ n t r f0 p0 vo Op Oa Ou E O c0 s0 H D (cgR c 800 (.ref r) fun v34 => bI (cC (dc + 30) 1015 [eR v34, eI 91] c) fun v36 h35 => if v36 = 0 then some (.inl (some (eR (.ref a0))), h35) else bR (cC (dc + 30) 813 [eR (.ref r)] h35) fun v38 h37 => cpR h37 2903 (.ref a0) v38 fun h39 => cgR h39 800 (.ref r) fun v40 => bV (cC (dc + 30) 1012 [eR v40, eI 93] h39) fun h41 => some (.inl (some (eR (.ref a0))), h41)) (bI (cT (dt + 30) 27 [eR (.ref 0), eI 91] s) fun v11 h10 => if v11 = 0 then some (.inl (some (eI (Int32.ofNat N))), h10) else tsaZ h10 136 (Int32.ofNat m) 1 fun h12 => bV (cT (dt + 30) 6 [eR (.ref 0)] h12) fun h13 => bI (cT (dt + 30) 40 [eR (.ref 0)] h13) fun v15 h14 => bV (cT (dt + 30) 49 [eR (.ref 0), eI (Int32.ofNat N), eI v15] h14) fun h16 => bV (cT (dt + 30) 26 [eR (.ref 0), eI 93] h16) fun h17 => some (.inl (some (eI (Int32.ofNat N))), h17)) := by
  have hw := hR.1.1.1.1
  have hfi := hR.2.1
  have hm48 : m < cnt s 48 := hA.2.2.2.2.2.2.2
  rw [RP_800 hR, c_passE (dc + 16) 91 hw, t_isSign (dt + 28), b_I]
  simp only [lx_sgn hR.1 (x := 91) (by decide), hfi, true_and]
  by_cases hq : tI s 8 = 5 ∧ tI s 11 = 91
  · have hth : TH [] [] [136] [49] s (tsA s 136 m 1) := TH_A (by simp) (TH_refl _ _ _ _ s)
    obtain ⟨hR2, hA2⟩ := P_ask136 (Oa' := fun j => Oa j ∨ j = m) hR1 hR hA hth (fun j hj => ⟨by rw [t_A_A, if_neg (fun z => hj z.2)], rfl⟩) (fun j hj => ⟨fun z => hj (Or.inl z), fun z => hj (Or.inr z)⟩) (fun j hj => by rcases hj with z | z; exact hR.2.2.2.2.2.2.2.1 j z; omega) (Or.inr rfl) (fun j hj => by
      rcases hj with z | z
      · exact Or.inl z
      · right; right; rw [z, lid_at hl]; exact h03)
    have hB := hgo _ _ hR2 hA2 hth
    rw [if_pos hq, a_IV, decide_eq_true hq, bi_t, if_neg n10, qs_136 hm _ _ (Or.inr rfl)]
    simp only [b_I, n10, if_false]
    have hS := hR.2.2.2.1.1
    have hU := hR.2.2.2.1.2.2.2.2.2.1
    have hw0 : cnt s0 64 < cnt s 35 := by
      have e := hB.2.2.2.2.2.1.2.2.2.2
      have := hR2.2.2.2.1.2.2.2.2.2.2.2.1.1.2.1
      rw [e, th_cnt hth (by decide)] at this; exact this
    have hcw := (RUt_cap hU hw0).2.2.2
    have haL := RSt_aL hS
    refine B_next (dc + 9) (dt + 10) hz hB (fun q hq' => ?_) (fun c2 s2 p2 f2 hB2 hW2 hp2 m1 m2 m3 m4 => ?_)
    · rw [F_e (dt + 26) hq', b_I, F_gets (dt + 28) _ _ hq', b_V, F_sign (dt + 26) _ hq', b_V]
      exact ⟨_, _, rfl, rfl, rfl⟩
    have hch2 := hW2.2.2.1
    have hth2 := hW2.2.2.2.1
    have z29 : cCl c2 a0 = 29 := ch_cl hch2 h29 (by decide)
    have z01 : cI c2 2901 a0 = k := (ch_I hch2 h29 (by decide) (by decide)).trans h01
    have z00 : cI c2 2900 a0 = Int32.ofNat m := (ch_I hch2 h29 (by decide) (by decide)).trans h00
    have zl : nthD .null (cLs c2 (r + 11)) m = .ref a0 := by rw [ch_Ls hch2 haL (by decide) (by decide)]; exact hl
    have zw : lid c2 (r + 8) (cnt s0 64) = lid c (r + 8) (cnt s0 64) := ch_lid hch2 (RSt_uL hS) (by decide) (by decide) _
    have z12 : cI c2 1612 (lid c2 (r + 8) (cnt s0 64)) = 1 := by rw [zw, ch_I hch2 hcw (by decide) (by decide)]; exact h12
    have hlv2 : cnt s2 63 = lv := hB2.2.2.2.2.2.1.2.2.2.1.trans hlv
    refine B_kidS (dt + 28) hz hB2 (hsub _ vo _ _ p2 f2 c2 s2 hlv2 hB2.1) (fun q hq' => ?_) (fun a1 y W vo' c3 s3 p3 f3 hB3 hp3 hf3 k1 k2 hKC3 hKT3 hvo3 hraw3 hN3 hK13 => ?_)
    · rw [F_sign (dt + 26) _ hq', b_V]
      exact ⟨_, _, rfl, rfl, rfl⟩
    have hR3 := hB3.1
    have y29 := kc_cl hKC3 z29 (by decide)
    have y01 : cI c3 2901 a0 = k := (kc_I hKC3 z29 (by decide) (by decide)).trans z01
    have y00 : cI c3 2900 a0 = Int32.ofNat m := (kc_I hKC3 z29 (by decide) (by decide)).trans z00
    have hnz : (Value.ref a0) ≠ .null := fun z => by cases z
    have yl : nthD .null (cLs c3 (r + 11)) m = .ref a0 := (((hKC3.2.2.2.2.2.2.2.1).2.1 (r + 11) m (Or.inr (RSt_aL hB2.1.2.2.2.1.1)) (nthV_lt _ _ _ zl)).2 (by rw [zl]; exact hnz)).trans zl
    have hw2 : cnt s0 64 < cnt s2 35 := by rw [th_cnt hth2 (by decide), th_cnt hth (by decide)]; exact hw0
    have yw : lid c3 (r + 8) (cnt s0 64) = lid c2 (r + 8) (cnt s0 64) := hKC3.2.2.2.2.2.2.2.2 _ (by rw [RP_len hB2.1]; exact hw2)
    have y12 : cI c3 1612 (lid c3 (r + 8) (cnt s0 64)) = 1 := by
      rw [yw]; exact (hKC3.2.2.2.2.2.2.2.1).2.2 _ (RUt_cap hB2.1.2.2.2.1.2.2.2.2.2.1 hw2).2.2.2 z12
    have h48 : m < cnt s2 48 := by rw [th_cnt hth2 (by decide), th_cnt hth (by decide)]; exact hm48
    have h483 : m < cnt s3 48 := Nat.lt_of_lt_of_le h48 (hKT3.1 48 (by simp))
    have hAt3 := hR3.2.2.2.1.2.2.2.2.2.2.2.2.2.1
    have y03 : cR c3 2903 a0 = .null := by
      have := (hAt3.2.2 m h483).2.2 (Or.inr rfl) (by rw [yl]; exact hnz)
      rw [lid_at yl] at this; exact this
    have y136 : tA s3 136 m = 1 := by
      rw [hKT3.2.2.2.2 m h48, th_A hth2 (by decide), t_A_A, if_pos ⟨rfl, rfl⟩]
    have y68 : tA s3 68 N = Int32.ofNat m := by
      rw [hN3 68 (by simp), th_A hth2 (by decide), th_A hth (by decide)]; exact h68
    obtain ⟨g3, hg3⟩ := hB3.2.2.2.2.2.2.2.2.2.2.2
    have ha1 : cCl c3 a1 ≠ 0 := TR_cl _ _ _ _ _ _ _ (hg3 (a1, y, H, D, W) (by simp)).2.2.2.2
    have hOm : ∀ j, Oa j → j < m := fun j hj => Nat.lt_of_lt_of_le (hR1.2.2.2.2.2.2.2.1 j hj) hA.2.2.2.2.2.2.1
    obtain ⟨hR4, hKC4⟩ := P_2903 (Oa := Oa) (a0 := a0) (a1 := a1) hR3 (fun j hj => by
      by_cases e : j = m
      · exact Or.inr e
      · exact Or.inl (fun w => by rcases w with w | w; exact hj w; exact e w)) (fun j hj => ⟨Or.inl hj, by have := hOm j hj; omega⟩) yl h483 y03 y136 ha1
    have d29 : cCl (csR c3 2903 a0 (.ref a1)) a0 = 29 := y29
    have d03 : cR (csR c3 2903 a0 (.ref a1)) 2903 a0 = .ref a1 := by rw [g_R_R, if_pos ⟨rfl, rfl⟩]
    have d01 : cI (csR c3 2903 a0 (.ref a1)) 2901 a0 = k := y01
    have d00 : cI (csR c3 2903 a0 (.ref a1)) 2900 a0 = Int32.ofNat m := y00
    have dl : nthD .null (cLs (csR c3 2903 a0 (.ref a1)) (r + 11)) m = .ref a0 := yl
    have d12 : cI (csR c3 2903 a0 (.ref a1)) 1612 (lid (csR c3 2903 a0 (.ref a1)) (r + 8) (cnt s0 64)) = 1 := y12
    have dn : cNx (csR c3 2903 a0 (.ref a1)) = cNx c3 ∧ cSl (csR c3 2903 a0 (.ref a1)) = cSl c3 := ⟨rfl, rfl⟩
    have draw : ∀ b, raw c3 b → raw (csR c3 2903 a0 (.ref a1)) b := raw_W (fun _ q => q)
    rw [kpR 2903 a0 (.ref a1) .null _ y29 rfl]
    generalize csR c3 2903 a0 (.ref a1) = c4 at *
    have hB4 : BS χ n t r f0 vo Op Oa Ou E 60 O c0 s0 N kd ([] ++ [(a1, y, H, D, W)]) p3 f3 vo' c4 s3 := BS_go (X' := 60) (vo' := vo') hz hB3 hR4 hKC4 (KT_refl s3) (fun _ _ => rfl) (fun _ _ _ _ _ => rfl) (TH_refl _ _ _ _ s0) hB3.2.2.2.2.2.1 (by have := hB3.2.1.2.2.2.1; omega) (by have := hB3.2.1.2.2.2.2.1; omega) hB3.2.1.2.2.2.2.2.1 (fun b q => draw b (hB3.2.1.2.2.2.2.2.2 b q))
    rw [RP_800 hR4]
    refine B_sign (dc + 8) (dt + 9) (x := 93) (y := 93) hz hB4 (lx_sgn hR4.1 (by decide)) (fun q hq' => ⟨_, _, rfl, rfl, rfl⟩) (fun c5 s5 p5 f5 hB5 hW5 hp5 j1 j2 j3 => ?_)
    have hch5 := hW5.2.2.1
    have hth5 := hW5.2.2.2.1
    have hw3 : cnt s0 64 < cnt s3 35 := Nat.lt_of_lt_of_le hw2 (hKT3.1 35 (by simp))
    have hcw4 := (RUt_cap hR4.2.2.2.1.2.2.2.2.2.1 hw3).2.2.2
    exact ask_fin hH hkd hz (by omega) hB5 (Or.inr ⟨a1, y, W, rfl, by rw [ch_R hch5 d29 (by decide) (by decide)]; exact d03⟩) (by rw [ch_lid hch5 (RSt_uL hR4.2.2.2.1.1) (by decide) (by decide), ch_I hch5 hcw4 (by decide) (by decide)]; exact d12) (ch_cl hch5 d29 (by decide)) (by rw [ch_I hch5 d29 (by decide) (by decide)]; exact d01) (by rw [ch_I hch5 d29 (by decide) (by decide)]; exact d00) (by rw [ch_Ls hch5 (RSt_aL hR4.2.2.2.1.1) (by decide) (by decide)]; exact dl) (by rw [th_A hth5 (by decide)]; exact y68) hm (by rw [th_cnt hth5 (by decide)]; exact h483)
  · rw [if_neg hq, decide_eq_false hq, bi_f, b_I, if_pos rfl, if_pos rfl]
    exact ask_fin hH hkd hz hp (hgo Oa s hR hA (TH_refl _ _ _ _ s)) (Or.inl ⟨rfl, h136⟩) h12 h29 h01 h00 hl h68 hm hm48
end
