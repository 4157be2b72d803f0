set_option maxRecDepth 100000
set_option maxHeartbeats 4000000
/-! D81: a unit captures; outwards -/
theorem blk {a b k u i : Nat} (h1 : i < a) (h2 : a ≤ 13) (h3 : b ≤ 13) (h : k = u → a = b) : 16 * k + i ≠ 16 * u + b := by
  intro q
  have := h (by omega)
  omega
section
variable {χ : Nat → Int32} {n t r p f : Nat} {vo : Nat → Nat} {Op Oa Ou : Nat → Prop} {E O : Nat} {c : cS} {s : tS}
theorem P_cap (d : Nat) {u v o xo : Nat} (h : RP χ n t r p f vo Op Oa Ou E O c s) (hu : u < cnt s 35) (hanc : anc s 60 (cnt s 64) u) (h40 : tA s 40 u ≠ -1) (hv : v < cnt s 50) (hne : tA s 51 v ≠ Int32.ofNat u) (hvR : vR r vo c s (ca s 40 u) v o) (hxo : cCl c xo = 17) (hvis : visV s v) :
    ∃ c' o', fX16_reach_13 (cC (d + 12)) (.ref (lid c (r + 8) u)) (.ref xo) (.ref o) 0 c = some (.inl (some (eR (.ref o'))), c') ∧ RP χ n t r p f vo Op Oa Ou E O c' (capT s u v) ∧ KC r c c' ∧ KT s (capT s u v) ∧ KS s (capT s u v) ∧ vR r vo c' (capT s u v) u v o' ∧ (∀ b, raw c b → raw c' b) ∧ cNx c' ≤ cNx c + 2 ∧ cSl c' ≤ cSl c + 23 ∧ (∀ x b, cCl c b ≠ 0 → cR c' x b = cR c x b) := by
  have h0 := h
  have hU := h.2.2.2.1.2.2.2.2.2.1
  have hV := h.2.2.2.1.2.2.2.2.2.2.1
  have hcap := RUt_cap hU hu
  have h1605 := (hU.2.2 u hu).2.2.2.1.1
  have hn := h.2.2.1
  have hS0 := h.2.2.2.1.1
  obtain ⟨q1, q2, q3, q4⟩ := hV.2.2.2 u hu
  have h13 := q1.2
  have h5 := hV.1.2
  have h60 := hU.1.2
  have hz : (0 : Int32) = Int32.ofNat 0 := rfl
  rcases c_reach13 (d + 3) (x1 := .ref xo) h hu hv hvR h40 (ca s 44 u) 0 (by omega) (fun j hj => absurd hj (Nat.not_lt_zero _)) with ⟨i, i1, i2, i3⟩ | ⟨hno, e1⟩
  · have hB : hasB s u v = true := hasB_t.2 ⟨i, i1, i2⟩
    have eT : capT s u v = s := by unfold capT; rw [if_pos hB]
    rw [eT]
    exact ⟨c, _, i3, h, KC_refl r c, KT_refl s, KS_refl s, Or.inr ⟨hne, i, i1, i2, (q2.2 i i1).1⟩, fun _ q => q, by omega, by omega, fun _ _ _ => rfl⟩
  have hroom := cap_room h hu hanc hvis hno
  have hB : ¬ hasB s u v = true := fun q => by
    obtain ⟨i, i1, i2⟩ := hasB_t.1 q
    exact hno i i1 (ca_of i2 (by omega))
  have eT : capT s u v = tsA (tsA s 45 (16 * u + ca s 44 u) (Int32.ofNat v)) 44 u (Int32.ofNat (ca s 44 u + 1)) := by unfold capT; rw [if_neg hB]
  have w44 : tA (capT s u v) 44 u = Int32.ofNat (ca s 44 u + 1) := by rw [eT, t_A_A, if_pos ⟨rfl, rfl⟩]
  have w45 : tA (capT s u v) 45 (16 * u + ca s 44 u) = Int32.ofNat v := by rw [eT, t_A_A, if_neg (fun z => by omega), t_A_A, if_pos ⟨rfl, rfl⟩]
  have c44 := ca_of w44 (by omega)
  have hth := capT_th s u v
  have o44 : ∀ k, k ≠ u → tA (capT s u v) 44 k = tA s 44 k := fun k hk => capT_44 s hk
  have o45 : ∀ j, j ≠ 16 * u + ca s 44 u → tA (capT s u v) 45 j = tA s 45 j := fun j hj => capT_45 s hj
  -- the new object
  have hnw : cmore (csCl c (cNx c) 17) (csz 17) = nwC c 17 := rfl
  have hn0 := hn _ (Nat.le_refl _)
  have hxn : xo ≠ cNx c := by rintro rfl; rw [hn0.1] at hxo; cases hxo
  have hlu : lid c (r + 8) u ≠ cNx c := fun q => by have := hcap.2.2.2; rw [q, hn0.1] at this; cases this
  have hlu1 : lid c (r + 8) u + 1 ≠ cNx c := fun q => by have := hcap.1; rw [q, hn0.1] at this; cases this
  have nl : ∀ a, a ≠ cNx c → cCl (nwC c 17) a = cCl c a := fun a ha => by show cCl (csCl c (cNx c) 17) a = _; rw [g_Cl_Cl, if_neg ha]
  have e11 := c_vc (c := c) (d + 1) (u := lid c (r + 8) u) (o := o) (k := ca s 44 u) (a := cL c 1700 xo)
  have hfr : FR c (vcC c (lid c (r + 8) u) o (ca s 44 u) (cL c 1700 xo)) := FR_I hn0.1 (FR_R hn0.1 (FR_R hn0.1 (FR_L hn0.1 (FR_nw hn0.1 (FR_refl c)))))
  have hnf : NF c (vcC c (lid c (r + 8) u) o (ca s 44 u) (cL c 1700 xo)) := NF_nw (k := 17) (by decide) (NF_refl c)
  have hclv := cC_cln e11 (P_new 17 h).2.2.1
  have hRv := RP_FR hfr hnf hclv h
  have hKv := FR_kc (r := r) hfr hnf hS0
  have hrv := FR_raw hfr hnf
  have g1 : cCl (vcC c (lid c (r + 8) u) o (ca s 44 u) (cL c 1700 xo)) (cNx c) = 17 := nw_cl c 17
  have g2 : cR (vcC c (lid c (r + 8) u) o (ca s 44 u) (cL c 1700 xo)) 1701 (cNx c) = .ref (lid c (r + 8) u) := by simp [vcC, gC]
  have g3 : cR (vcC c (lid c (r + 8) u) o (ca s 44 u) (cL c 1700 xo)) 1702 (cNx c) = .ref o := by simp [vcC, gC]
  have g4 : cI (vcC c (lid c (r + 8) u) o (ca s 44 u) (cL c 1700 xo)) 1703 (cNx c) = Int32.ofNat (ca s 44 u) := by simp [vcC, gC]
  have gnx : cNx (vcC c (lid c (r + 8) u) o (ca s 44 u) (cL c 1700 xo)) = cNx c + 1 := rfl
  have gsl : cSl (vcC c (lid c (r + 8) u) o (ca s 44 u) (cL c 1700 xo)) = cSl c + 4 := rfl
  have gls : cLs (vcC c (lid c (r + 8) u) o (ca s 44 u) (cL c 1700 xo)) = cLs c := rfl
  have glid : ∀ L k, lid (vcC c (lid c (r + 8) u) o (ca s 44 u) (cL c 1700 xo)) L k = lid c L k := fun _ _ => rfl
  have g5 : cCl (vcC c (lid c (r + 8) u) o (ca s 44 u) (cL c 1700 xo)) (lid c (r + 8) u) = 16 := (nl _ hlu).trans hcap.2.2.2
  have g6 : cCl (vcC c (lid c (r + 8) u) o (ca s 44 u) (cL c 1700 xo)) (lid c (r + 8) u + 1) = 6605 := (nl _ hlu1).trans hcap.1
  have g7 : cR (vcC c (lid c (r + 8) u) o (ca s 44 u) (cL c 1700 xo)) 1605 (lid c (r + 8) u) = .ref (lid c (r + 8) u + 1) := (kc_R hKv hcap.2.2.2 (by decide) (by decide)).trans h1605
  have eL : cL (nwC c 17) 1700 xo = cL c 1700 xo := rfl
  have hcode : fX16_reach_13 (cC (d + 12)) (.ref (lid c (r + 8) u)) (.ref xo) (.ref o) (Int32.ofNat (ca s 44 u)) c = (bI (cC (d + 12) 9105 [eR (.ref (lid c (r + 8) u + 1)), eR (.ref (cNx c))] (vcC c (lid c (r + 8) u) o (ca s 44 u) (cL c 1700 xo))) fun _ h12 => some (.inl (some (eR (.ref (cNx c)))), h12)) := by
    have r1 : cR (nwC c 17) 1605 (lid c (r + 8) u) = .ref (lid c (r + 8) u + 1) := h1605
    have r2 : cLs (nwC c 17) (lid c (r + 8) u + 1) = cLs c (lid c (r + 8) u + 1) := rfl
    rw [uX16_reach_13, r_cgR, if_pos hcap.2.2.2, h1605, c_len (d + 3) hcap.1 rfl, b_I, q2.1, if_neg (by rw [z_lt (by omega) (by omega)]; omega), r_cnw, hnw, r_cgL, if_pos ((nl _ hxn).trans hxo), eL, r_cgR, if_pos ((nl _ hlu).trans hcap.2.2.2), r1, c_len (d + 3) ((nl _ hlu1).trans hcap.1) rfl, b_I, r2, q2.1, e11, b_V, r_cgR, if_pos g5, g7]
  rw [hz, e1, hcode]
  generalize hcv : vcC c (lid c (r + 8) u) o (ca s 44 u) (cL c 1700 xo) = cv at *
  obtain ⟨c', e12, hLA, hsl⟩ := c_add2 (d + 3) g6 rfl (by rw [gls, q2.1]; omega) (.ref (cNx c))
  rw [e12, b_I]
  have hcl' := cC_cln e12 hclv
  obtain ⟨⟨x1, x2, x3, _⟩, ⟨i1, i2, i3, i4, i5, i6, i7⟩, i8, i9⟩ := id hLA
  obtain ⟨hLx, hfi, hn', hQ, hN, hOu, hOp, hOa, hOu2⟩ := hRv
  obtain ⟨hS, hC, hG, hLm, hM, hU', hV', hI, hF, hA, hB'⟩ := hQ
  have hch : CH [] [] [] [6605] cv c' := LA_ch hLA g6
  have hKC : KC r cv c' := KC_of hch hS x3 (by decide)
  have hlid : ∀ k, lid c' (r + 8) k = lid c (r + 8) k := fun k => (ch_lid hch (RSt_uL hS) (by decide) (by decide) k).trans (glid _ _)
  have n65 : cnt (capT s u v) 35 = cnt s 35 := th_cnt hth (by decide)
  have hKT : KT s (capT s u v) := by
    refine ⟨fun x hx => by rw [th_cnt hth (by simp)]; exact Nat.le_refl _, fun k hk => ⟨th_A hth (by decide) k, fun _ => th_A hth (by decide) k, th_A hth (by decide) k, ?_, fun i hi => ?_⟩, fun w _ => ⟨th_A hth (by decide) w, vI_fr hth (by decide) w, th_A hth (by decide) w, th_B hth (by decide) w⟩, fun k _ => th_B hth (by decide) k, fun k _ => th_A hth (by decide) k⟩
    · by_cases e : k = u
      · rw [e, c44]; omega
      · rw [ca_eq (o44 k e)]; exact Nat.le_refl _
    · have := (hV.2.2.2 k hk).1.2
      exact o45 _ (blk hi this h13 (fun e => by rw [e]))
  have oldL : ∀ L k', cCl cv L = k' → k' ≠ 6605 → cLs c' L = cLs cv L := fun L k' e hk' => i9 L (by rintro rfl; rw [g6] at e; exact hk' e.symm)
  have lk : ∀ k, k < cnt s 35 → k ≠ u → cLs c' (lid c (r + 8) k + 1) = cLs cv (lid c (r + 8) k + 1) := fun k hk e => i9 _ (fun q => e (u_inj h0 hk hu (by omega)))
  have vRm : ∀ w x o', w < cnt s 35 → vR r vo cv s w x o' → vR r vo c' (capT s u v) w x o' := fun w x o' hw hx => by
    rcases hx with ⟨a1, a2⟩ | ⟨a1, i, b1, b2, b3⟩
    · exact Or.inl ⟨by rw [th_A hth (by decide)]; exact a1, a2⟩
    · have h13w := (hV.2.2.2 w hw).1.2
      refine Or.inr ⟨by rw [th_A hth (by decide)]; exact a1, i, Nat.lt_of_lt_of_le b1 (hKT.2.1 w hw).2.2.2.1, by rw [o45 _ (blk b1 h13w h13 (fun e => by rw [e]))]; exact b2, ?_⟩
      rw [hlid w]
      rw [glid] at b3
      by_cases e : w = u
      · rw [e] at b1 b3 ⊢
        rw [i8, lst_lt _ _ _ (by rw [gls, q2.1]; exact b1)]; exact b3
      · rw [lk w hw e]; exact b3
  have lN : nthD .null (cLs c' (lid c (r + 8) u + 1)) (ca s 44 u) = .ref (cNx c) := by
    rw [i8, ← q2.1, gls]; exact lst_end _ _
  have hvRn : vR r vo c' (capT s u v) u v (cNx c) := Or.inr ⟨by rw [th_A hth (by decide)]; exact hne, ca s 44 u, by rw [c44]; omega, w45, by rw [hlid u]; exact lN⟩
  have hKS : KS s (capT s u v) := ⟨⟨th_cnt hth (by decide), Nat.le_of_eq n65.symm, fun k hk hna => ⟨ca_eq (o44 k (by rintro rfl; exact hna hanc)), by rw [anc_fr hth (by decide), th_cnt hth (by decide)]; exact hna⟩⟩, th_cnt hth (by decide), fun i _ => th_A hth (by decide) i, th_cnt hth (by decide), th_cnt hth (by decide)⟩
  have hKC2 : KC r c c' := KC_trans (by rw [gls]; exact Nat.le_refl _) hKv hKC
  refine ⟨c', cNx c, rfl, ⟨LX_ch hch hth (congrFun i4 t) (congrFun i5 (r + 19)) (by decide) hLx, (th_I hth (by decide)).trans hfi, hcl', ⟨RSt_fr hch (by decide) hS, RCt_fr hch hth hS (by decide) hC, RGt_fr hch hth hS (by decide) hG, RLt_fr hch hth hS (by decide) hLm, RMt_fr hch hth hS (by decide) (by decide) hM, RUt_fr hch hth hS (by decide) (by decide) hU', ?_, ?_, RFt_fr hch hth hS hU' (by decide) hF, RAt_fr hch hth hS (by decide) hA, ?_⟩, RNt_fr hth (by decide) hN, by rw [th_cnt hth (by decide)]; exact hOu, fun y hy => by rw [th_ca hth (by decide), th_cnt hth (by decide)]; exact hOp y hy, fun k hk => by rw [th_cnt hth (by decide)]; exact hOa k hk, fun k hk => by rw [n65]; exact hOu2 k hk⟩, hKC2, hKT, hKS, hvRn, fun b q => LA_raw hLA g6 (by decide) b (hrv b q), by omega, by omega, fun x b hb => by rw [i3]; exact (hfr.2.2 b hb).2.2.2.2.2.1 x⟩
  · -- variables
    obtain ⟨v1, v2, v3, v4⟩ := hV'
    have n50 : cnt (capT s u v) 50 = cnt s 50 := th_cnt hth (by decide)
    refine ⟨by rw [th_cok hth (by decide)]; exact v1, fun w hw => ?_, fun a b ha hb e => v3 a b (by omega) (by omega) e, fun k hk => ?_⟩
    · rw [n50] at hw
      obtain ⟨y1, y2, y3, y4, y5, y6, y7, y8⟩ := v2 w hw
      rw [i6, i3, i1, th_aok hth (by decide), th_ca hth (x := 51) (by decide), n65, hlid, th_A hth (x := 54) (by decide), th_aok hth (x := 53) (by decide), vI_fr hth (by decide)]
      exact ⟨y1, y2, y3, by rw [glid] at y4; exact y4, y5, y6, y7, y8⟩
    · rw [n65] at hk
      obtain ⟨z1, z2, z3, z4⟩ := v4 k hk
      rw [glid (r + 8) k] at z2
      have hk60 : k < 60 := by omega
      have z13 := z1.2
      by_cases e : k = u
      · rw [e] at z1 z2 z3 z4 z13 ⊢
        rw [c44, hlid u, n50, th_A hth (x := 40) (by decide), i3, i1, th_ca hth (x := 40) (by decide)]
        have lo : ∀ i, i < ca s 44 u → nthD .null (cLs c' (lid c (r + 8) u + 1)) i = nthD .null (cLs cv (lid c (r + 8) u + 1)) i := fun i hi => by rw [i8]; exact lst_lt _ _ _ (by rw [gls, q2.1]; exact hi)
        have lo' : ∀ i, i < ca s 44 u → lid c' (lid c (r + 8) u + 1) i = lid cv (lid c (r + 8) u + 1) i := fun i hi => lid_eq (lo i hi)
        have lN' : lid c' (lid c (r + 8) u + 1) (ca s 44 u) = cNx c := lid_at lN
        refine ⟨aok_of w44 (by omega) (by omega), ⟨by rw [i8, List.length_append, z2.1]; rfl, fun i hi => ?_⟩, fun i hi => ?_, fun i j hi hj w => ?_⟩
        · by_cases ei : i = ca s 44 u
          · rw [ei, lN', lN, i6]; exact ⟨rfl, g1⟩
          · rw [lo' i (by omega), lo i (by omega), i6]; exact z2.2 i (by omega)
        · by_cases ei : i = ca s 44 u
          · have ce := ca_of w45 (by omega)
            rw [ei, lN', ce, th_ca hth (x := 51) (by decide)]
            refine ⟨aok_of w45 (by omega) (by omega), hv, h40, g2, g4, fun z => hne ?_, o, g3, vRm _ _ _ (by have := u_out hU hu h40; omega) ?_⟩
            · rw [← z]; exact (hV.2.1 v hv).2.1.1
            · rcases hvR with ⟨a1, a2⟩ | ⟨a1, i', b1, b2, b3⟩
              · exact Or.inl ⟨a1, a2⟩
              · exact Or.inr ⟨a1, i', b1, b2, by rw [glid, gls]; exact b3⟩
          · obtain ⟨y1, y2, y3, y4, y5, y6, o2, y7, y8⟩ := z3 i (by omega)
            have eo : tA (capT s u v) 45 (16 * u + i) = tA s 45 (16 * u + i) := o45 _ (by omega)
            rw [glid (r + 8) u] at y4 y5 y7
            rw [lo' i (by omega), aok_eq eo, ca_eq eo, th_ca hth (x := 51) (by decide)]
            exact ⟨y1, y2, y3, y4, y5, y6, o2, y7, vRm _ _ _ (by have := u_out hU hu h40; omega) y8⟩
        · have hnv : ∀ i, i < ca s 44 u → tA (capT s u v) 45 (16 * u + i) ≠ Int32.ofNat v := fun i hi q => by
            rw [o45 _ (by omega)] at q
            exact hno i hi (ca_of q (by omega))
          by_cases ei : i = ca s 44 u <;> by_cases ej : j = ca s 44 u
          · omega
          · rw [ei, w45] at w; exact absurd w.symm (hnv j (by omega))
          · rw [ej, w45] at w; exact absurd w (hnv i (by omega))
          · rw [o45 _ (by omega), o45 _ (by omega)] at w
            exact z4 i j (by omega) (by omega) w
      · rw [aok_eq (o44 k e), ca_eq (o44 k e), hlid k, n50, th_A hth (x := 40) (by decide), i3, i1, th_ca hth (x := 40) (by decide)]
        have lo' : ∀ i, lid c' (lid c (r + 8) k + 1) i = lid cv (lid c (r + 8) k + 1) i := fun i => lid_ls (lk k hk e) i
        refine ⟨z1, ⟨by rw [lk k hk e]; exact z2.1, fun i hi => by rw [lo', lk k hk e, i6]; exact z2.2 i hi⟩, fun i hi => ?_, fun i j hi hj w => ?_⟩
        · obtain ⟨y1, y2, y3, y4, y5, y6, o2, y7, y8⟩ := z3 i hi
          have eo : tA (capT s u v) 45 (16 * k + i) = tA s 45 (16 * k + i) := o45 _ (by omega)
          rw [glid (r + 8) k] at y4 y5 y7
          rw [lo', aok_eq eo, ca_eq eo, th_ca hth (x := 51) (by decide)]
          exact ⟨y1, y2, y3, y4, y5, y6, o2, y7, vRm _ _ _ (by have := u_out hU hk y3; omega) y8⟩
        · rw [o45 _ (by omega), o45 _ (by omega)] at w
          exact z4 i j hi hj w
  · -- what can be seen
    have hI0 := hI
    obtain ⟨j1, j2, ⟨j3, j4, j5⟩, _⟩ := hI
    obtain ⟨w1, w2, q, y1, y2, y3, y4, y5, y6, y7, y8, y9⟩ := RI_fr hch hth hS hV' (by decide) hI0
    have n56 : cnt (capT s u v) 56 = cnt s 56 := th_cnt hth (by decide)
    have o57 : ∀ i, tA (capT s u v) 57 i = tA s 57 i := fun i => th_A hth (by decide) i
    have ls15 : cLs c' (r + 15) = cLs cv (r + 15) := oldL _ _ (RSt_vL hS) (by decide)
    refine ⟨w1.1, w1.2, ⟨by rw [th_cok hth (by decide)]; exact j3, by rw [ls15, n56]; exact j4, fun i hi => ?_⟩, q, y1, y2, y3, y4, y5, y6, y7, ?_⟩
    · rw [n56] at hi
      obtain ⟨a1, a2, a3, a4, a5⟩ := j5 i hi
      rw [aok_eq (o57 i), ca_eq (o57 i), ls15, th_cnt hth (x := 50) (by decide)]
      exact ⟨a1, a2, a3, (w2 _ a2 ⟨a4, a5⟩).1, (w2 _ a2 ⟨a4, a5⟩).2⟩
    · intro k hk ha i hi
      rw [n65] at hk
      rw [anc_fr hth (by decide), th_cnt hth (by decide)] at ha
      rw [y9, n56]
      have h13k := (hV.2.2.2 k hk).1.2
      by_cases ek : k = u ∧ i = ca s 44 u
      · rw [ek.1, ek.2, ca_of w45 (by omega)]
        rcases hvis with ⟨j, b1, b2⟩ | ⟨q', b1, b2, b3⟩
        · exact Or.inl ⟨j, b1, by rw [ca_eq (o57 j)]; exact b2⟩
        · right
          rw [th_A hth (by decide)] at y2
          rw [anc_fr hth (by decide), th_cnt hth (by decide)] at y3
          rw [b3, anc_root q' q b1 y2 _ _ b2 y3]
      · have hi' : i < ca s 44 k := by
          by_cases e : k = u
          · rw [e, c44] at hi; rw [e]; omega
          · rw [ca_eq (o44 k e)] at hi; exact hi
        rw [ca_eq (o45 (16 * k + i) (blk hi' h13k h13 (fun e => by rw [e])))]
        rcases y8 k hk ha i hi' with ⟨j, b1, b2⟩ | w
        · exact Or.inl ⟨j, b1, by rw [ca_eq (o57 j)]; exact b2⟩
        · exact Or.inr w
  · exact RBt_mono hKC hKT hU'.2.1.1 (fun w hw => (hV'.2.1 w hw).2.2.1) n65 (by rw [th_cnt hth (by decide)]; exact Nat.le_refl _) (fun k _ _ => by rw [i3]) (fun k _ _ => th_A hth (by decide) k) (fun y _ _ z hz' => th_A hth (by simp only [List.mem_cons, List.not_mem_nil, or_false] at hz' ⊢; omega) y) hB'
end
