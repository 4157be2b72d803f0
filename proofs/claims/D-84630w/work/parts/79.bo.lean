set_option maxRecDepth 100000
set_option maxHeartbeats 4000000
/-! D29: a sign between two parts -/
section
variable {χ : Nat → Int32} {n t r : Nat} {Oa Ou : Nat → Prop} {O : Nat}
theorem t_opF (dt : Nat) (k x : Int32) {s : tS} (h : tI s 6 ≠ 0) : True := trivial
theorem binop (dc dt subC subT k : Nat) (hk : 11 ≤ k ∧ k ≤ 15) {f0 p0 p f : Nat} {vo0 : Nat → Nat} {Op : Nat → Prop} {E H D a x lv : Nat} {c0 c : cS} {s0 s : tS} (hH : 2 ≤ H)
    (hsub : ∀ (vo : Nat → Nat) (Op : Nat → Prop) (E p f : Nat) (c : cS) (s : tS), cnt s 63 = lv → RP χ n t r p f vo Op Oa Ou E O c s → PX χ n t r f p vo Op Oa Ou E O c s (H - 1) D (cC (dc + 25) subC [eR (.ref r)] c) (cT (dt + 25) subT [eR (.ref 0)] s))
    (hsubF : ∀ s, tI s 6 ≠ 0 → cT (dt + 25) subT [eR (.ref 0)] s = some (.inl (some (eI 0)), s))
    (KCn : Value → cS → cRes) (KTn : Int32 → tS → tR) (hKF : ∀ y s, tI s 6 ≠ 0 → ∃ q s', KTn y s = some (.inl (some (eI q)), s') ∧ tI s' 6 = tI s 6 ∧ tI s' 7 = tI s 7)
    (h : PXo χ n t r f0 p0 vo0 Op Oa Ou E O c0 s0 H D a x c s p f) (hR0 : ∃ p1 Op1 E1, RP χ n t r p1 f0 vo0 Op1 Oa Ou E1 O c0 s0) (hlv : cnt s 63 = lv) (htok : tI s 8 ≠ 0) :
    pB n f0 c0 (bV (cC (dc + 25) 818 [eR (.ref r)] c) fun h1 => cgR h1 800 (.ref r) fun v2 => bV (cC (dc + 25) 1001 [eR v2] h1) fun h3 => cnw h3 33 fun v4 h5 => bR (cC (dc + 25) subC [eR (.ref r)] h5) fun v7 h6 => bV (cC (dc + 25) 3300 [eR v4, eI (Int32.ofNat k), eR (.ref a), eR v7] h6) fun h8 => KCn v4 h8)
      (bI (cT (dt + 25) 76 [eR (.ref 0), eI (Int32.ofNat k), eI (Int32.ofNat x)] s) fun v2 h1 => bI (cT (dt + 25) subT [eR (.ref 0)] h1) fun v4 h3 => bV (cT (dt + 25) 49 [eR (.ref 0), eI v2, eI v4] h3) fun h5 => KTn v2 h5) ∨
    ∃ a' x' c' s' p' f', (bV (cC (dc + 25) 818 [eR (.ref r)] c) fun h1 => cgR h1 800 (.ref r) fun v2 => bV (cC (dc + 25) 1001 [eR v2] h1) fun h3 => cnw h3 33 fun v4 h5 => bR (cC (dc + 25) subC [eR (.ref r)] h5) fun v7 h6 => bV (cC (dc + 25) 3300 [eR v4, eI (Int32.ofNat k), eR (.ref a), eR v7] h6) fun h8 => KCn v4 h8) = KCn (.ref a') c' ∧
      (bI (cT (dt + 25) 76 [eR (.ref 0), eI (Int32.ofNat k), eI (Int32.ofNat x)] s) fun v2 h1 => bI (cT (dt + 25) subT [eR (.ref 0)] h1) fun v4 h3 => bV (cT (dt + 25) 49 [eR (.ref 0), eI v2, eI v4] h3) fun h5 => KTn v2 h5) = KTn (Int32.ofNat x') s' ∧ PXo χ n t r f0 p0 vo0 Op Oa Ou E O c0 s0 H D a' x' c' s' p' f' ∧ f < f' := by
  obtain ⟨vo, g, W, hR, hST, hvo, hx0, hx1, hTR, h71, hKS, hpf⟩ := h
  obtain ⟨pz, Opz, Ez, hRz⟩ := hR0
  have hfin : ∀ y s', tI s' 6 ≠ 0 → ∃ q s'', (bI (cT (dt + 25) subT [eR (.ref 0)] s') fun v4 h3 => bV (cT (dt + 25) 49 [eR (.ref 0), eI y, eI v4] h3) fun h5 => KTn y h5) = some (.inl (some (eI q)), s'') ∧ tI s'' 6 = tI s' 6 ∧ tI s'' 7 = tI s' 7 := by
    intro y s' hb
    rw [hsubF s' hb]
    simp only [rT, bB, eq_self, if_true, if_false, true_and, and_true, false_and, and_false, or_true, true_or, or_false, false_or, reduceIte, Nat.reduceEqDiff, not_true_eq_false, not_false_eq_true, F_gets (dt + 23) _ _ hb]
    exact hKF y s' hb
  have hop : ∀ (r2 : tR), (bI (cT (dt + 24) 46 [eR (.ref 0)] s) fun v2 h1 => if v2 = 0 then some (.inl (some (eI 0)), h1) else bI (cT (dt + 24) 47 [eR (.ref 0), eI (Int32.ofNat k), eI 0, eI 0] h1) fun v4 h3 => bV (cT (dt + 24) 49 [eR (.ref 0), eI v4, eI (Int32.ofNat x)] h3) fun h5 => bV (cT (dt + 24) 6 [eR (.ref 0)] h5) fun h6 => some (.inl (some (eI v4)), h6)) = r2 → cT (dt + 25) 76 [eR (.ref 0), eI (Int32.ofNat k), eI (Int32.ofNat x)] s = r2 := by
    intro r2 e
    rw [kX7_operation, uX7_operation]; exact e
  have hΦ1 := hST.2.2.2.1
  have hΦ2 := hST.2.2.2.2.1
  rcases P_part (dc + 10) (dt + 21) hR with ⟨a9, c9, s9, k9, pl9, w1, w2, w3, w4, w5, w6, w7, w8⟩ | ⟨e1, e2, hR1, hST1, hc1⟩
  · left
    rw [hop _ (by rw [w2]), w1, b_Vx, b_I]
    simp only [if_true, b_I]
    obtain ⟨q', s'', g1, g2, g3⟩ := hfin 0 s9 (by rw [w4]; exact w6)
    exact ⟨a9, c9, q', s'', k9, pl9, rfl, g1, w3, by rw [g2]; exact w4, by rw [g3]; exact w5, w6, by omega, by omega⟩
  · have hn62 := hR.2.2.2.1.2.1.2.2.2.2.2
    have hn65 : cnt (ptT s) 65 = cnt s 65 := rfl
    obtain ⟨e3, hR2, hST2⟩ := P_node (dt + 23) k (by omega) 0 0 hR1 (by rw [hc1, hn65]; omega)
    generalize hs2 : ndT (ptT s) (Int32.ofNat k) 0 0 = s2 at e3 hR2 hST2
    rw [hn65] at e3 hR2
    have hN65 : cok s 65 900 := hR.2.2.2.1.2.1.2.2.2.2.1
    have hp400 : cnt s 62 ≤ 400 := hR.2.2.2.1.2.1.1.1.2
    have hc1' : cnt (ptT s) 62 ≤ 400 := hR1.2.2.2.1.2.1.1.1.2
    obtain ⟨m1, m2, m3, m4, m5, m6, m7⟩ := nd_new (ptT s) (Int32.ofNat k) 0 0
    rw [hs2, hn65] at m1 m2 m3 m4 m5 m6 m7
    have m65 : cnt s2 65 = cnt s 65 + 1 := by
      have := (nd_cnt (s := ptT s) (k := Int32.ofNat k) (a := 0) (b := 0) hN65).1
      rw [hs2, hn65] at this
      exact this
    have hx9 : x < 900 := by have := hR.2.2.2.1.2.1.2.2.2.2.1.2; omega
    have hN9 : cnt s 65 < 900 := by omega
    have hcu : cok s 64 59 ∧ cnt s 64 < cnt s 35 ∧ _ := hR.2.2.2.1.2.2.2.2.2.2.2.1.1
    have hou : Ou (cnt s 64) := hR.2.2.2.2.2.1
    have hroot := TR_root _ _ _ _ _ _ _ hTR
    have hs64 : cnt s 64 = cnt s0 64 := hKS.2.2.2.2
    have hxN : x ≠ cnt s 65 := by omega
    have o2 : ∀ y, y < cnt s 65 → ∀ z, tA s2 z y = tA s z y := fun y hy z => by
      rw [← hs2, nd_old (ptT s) _ 0 0 (by rw [hn65]; omega)]; rfl
    have c67x : ca s2 67 x = cnt s 64 := by rw [ca_eq (o2 x hx1 67), hroot.2, hs64]
    have c67N : ca s2 67 (cnt s 65) = cnt s 64 := ca_of (m2.trans hcu.1.1) (by have := hcu.1.2; omega)
    have e4 := t_gets (dt + 22) (x := cnt s 65) (y := x) (ys := []) hR2.2.1 hN9 hx9 m5
    have hs3' : gtT s2 (cnt s 65) x [] = tsA (tsA s2 72 x (Int32.ofNat (cnt s 65))) 70 (cnt s 65) (Int32.ofNat x) := rfl
    have hth3 := gt_th s2 (cnt s 65) x []
    generalize gtT s2 (cnt s 65) x [] = s3 at e4 hs3' hth3
    have o3 : ∀ y, y ≠ x → y ≠ cnt s 65 → ∀ z, tA s3 z y = tA s2 z y := fun y h1 h2 z => by
      rw [hs3']; simp only [gT, h1, h2, and_false, if_false]
    have hR3 := P_links hR2 hth3 (fun y hy ho z _ => o3 y (by rintro rfl; exact ho (by rw [c67x]; exact hou)) (by rintro rfl; exact ho (by rw [c67N]; exact hou)) z)
    have t3 : ∀ q, tI s3 q = tI s2 q := fun q => th_I hth3 (by simp)
    have t2 : ∀ q, q ≠ 65 → q ≠ 62 → tI s2 q = tI s q := fun q h1 h2 => by
      rw [← hs2]
      show (if q = 65 then _ else (if q = 62 then _ else tI s q)) = _
      rw [if_neg h1, if_neg h2]
    have htok3 : tI s3 8 ≠ 0 := by rw [t3, t2 8 (by decide) (by decide)]; exact htok
    have hcr : cgR (ptC c r) 800 (.ref r) = fun K => K (.ref (r + 16)) := by
      funext K
      rw [r_cgR, if_pos hR1.2.2.2.1.1.1, hR1.2.2.2.1.1.2.1]
    have ecut : ∀ K : cS → cRes, (bV (cC (dc + 25) 818 [eR (.ref r)] c) fun h1 => cgR h1 800 (.ref r) fun v2 => bV (cC (dc + 25) 1001 [eR v2] h1) K) = bV (cC (dc + 25) 1001 [eR (.ref (r + 16))] (ptC c r)) K := by
      intro K
      rw [e1, b_V, hcr]
    rw [ecut]
    have eop : cT (dt + 25) 76 [eR (.ref 0), eI (Int32.ofNat k), eI (Int32.ofNat x)] s = bV (cT (dt + 24) 6 [eR (.ref 0)] s3) fun h6 => some (.inl (some (eI (Int32.ofNat (cnt s 65)))), h6) := by
      refine hop _ ?_
      rw [e2, b_I, if_neg (by decide), show (0 : Int32) = Int32.ofNat 0 from rfl] 
      rw [show (Int32.ofNat 0 : Int32) = 0 from rfl, e3, b_I, e4, b_V]
    rw [eop]
    rcases P_next (dc + 5) (dt + 4) hR3 with hb | ⟨c2, s4, p4, f4, e5, e6, hWK⟩
    · left
      obtain ⟨a9, c9, s9, k9, pl9, w1, w2, w3, w4, w5, w6, w7, w8⟩ := hb
      rw [w1, w2, b_Vx, b_V, b_I]
      obtain ⟨q', s'', g1, g2, g3⟩ := hfin (Int32.ofNat (cnt s 65)) s9 (by rw [w4]; exact w6)
      exact ⟨a9, c9, q', s'', k9, pl9, rfl, g1, w3, by rw [g2]; exact w4, by rw [g3]; exact w5, w6, by have : cNx (ptC c r) = cNx c := rfl; omega, by have : cSl (ptC c r) = cSl c := rfl; omega⟩
    · rw [e5, e6, b_V, b_V, b_I]
      obtain ⟨hST4, hsl4⟩ := WK_ST hR3 hWK
      obtain ⟨hff, hΦ3, hΦ4⟩ := hsl4 htok3
      have hpc1 : cNx (ptC c r) = cNx c := rfl
      have hpc2 : cSl (ptC c r) = cSl c := rfl
      have hth4 := hWK.2.2.2.1
      have hch4 := hWK.2.2.1
      have hR4 := hWK.1
      have hn2 := hR4.2.2.1
      have hR4' := P_new 33 hR4
      rw [r_cnw]
      have hnw : cmore (csCl c2 (cNx c2) 33) (csz 33) = nwC c2 33 := rfl
      rw [hnw]
      have hnx1 : cNx (nwC c2 33) = cNx c2 + 1 := rfl
      have hnx2 : cSl (nwC c2 33) = cSl c2 + 3 := rfl
      have h63 : cnt s4 63 = lv := by
        rw [th_cnt hth4 (by decide)]
        unfold cnt at hlv ⊢
        rw [t3, t2 63 (by decide) (by decide)]; exact hlv
      rcases hsub vo _ _ p4 f4 (nwC c2 33) s4 h63 hR4' with hb | ⟨a2, y, c4, s5, p5, f5, e7, e8, hPX⟩
      · left
        refine pB_step hb (by omega) (by omega) (fun a c' q => by rw [q]; rfl) (fun q s' q1 q2 => ?_)
        rw [q1, b_I, F_gets (dt + 23) _ _ q2, b_V]
        exact hKF _ s' q2
      · right
        obtain ⟨vo5, g2, W2, hR5, hST5, hvo5, hy0, hy1, hTR2, h71y, hKS5, hpf5⟩ := hPX
        rw [e7, e8, b_R, b_I]
        have ha0 : cCl c2 (cNx c2) = 0 := (hn2 _ (Nat.le_refl _)).1
        have hraw3 : raw (nwC c2 33) (cNx c2, []) := Or.inl (Or.inl ⟨nw_cl c2 33, ((hn2 _ (Nat.le_refl _)).2.1 3301 (by decide)).2.2⟩)
        have hraw4 := hST5.2.2.2.2.2.2 _ hraw3
        have ha4 : cCl c4 (cNx c2) = 33 := kc_cl hST5.1 (nw_cl c2 33) (by decide)
        have hnl : ¬ live c4 (cNx c2) := fun q => q.2 (raw_0 hraw4 (by rw [ha4]; decide) (by rw [ha4]; decide))
        have e9 := c_wk (dc + 14) (c := c4) (a := cNx c2) (Int32.ofNat k) (v1 := .ref a) (v2 := .ref a2) ha4 rfl rfl
        have hcl5 : CLN (wkC c4 (cNx c2) (Int32.ofNat k) (.ref a) (.ref a2)) := cC_cln e9 hR5.2.2.1
        have hch5 : CH [] [] [] [] c4 (wkC c4 (cNx c2) (Int32.ofNat k) (.ref a) (.ref a2)) := CH_R (Or.inr hnl) (CH_R (Or.inr hnl) (CH_I (Or.inr hnl) (CH_refl _ _ _ _ c4)))
        have hR5' := RP_fr hch5 (TH_refl [] [] [] [] s5) (fun _ _ _ => ⟨rfl, rfl⟩) hcl5 (Nat.le_refl _) (by decide) (by decide) (by simp) hR5
        rw [e9, b_V]
        have w33 : cCl (wkC c4 (cNx c2) (Int32.ofNat k) (.ref a) (.ref a2)) (cNx c2) = 33 := ha4
        have w3300 : cI (wkC c4 (cNx c2) (Int32.ofNat k) (.ref a) (.ref a2)) 3300 (cNx c2) = Int32.ofNat k := by simp [wkC, gC]
        have w3301 : cR (wkC c4 (cNx c2) (Int32.ofNat k) (.ref a) (.ref a2)) 3301 (cNx c2) = .ref a := by simp [wkC, gC]
        have w3302 : cR (wkC c4 (cNx c2) (Int32.ofNat k) (.ref a) (.ref a2)) 3302 (cNx c2) = .ref a2 := by simp [wkC, gC]
        have wnx : cNx (wkC c4 (cNx c2) (Int32.ofNat k) (.ref a) (.ref a2)) = cNx c4 := rfl
        have wsl : cSl (wkC c4 (cNx c2) (Int32.ofNat k) (.ref a) (.ref a2)) = cSl c4 := rfl
        -- all of the heap's growth, from the beginning
        have hnc0 := hRz.2.2.1
        have hlen1 := ST_len hRz hR hST
        have k1 : KC r c0 (ptC c r) := KC_trans hlen1 hST.1 hST1.1
        have k2 : KC r c0 c2 := KC_trans (by rw [RP_len hRz]; have := ST_len hRz hR hST; rw [RP_len hRz, RP_len hR] at this; have q9 := RP_len hR1; have : cnt (ptT s) 35 = cnt s 35 := rfl; omega) k1 hST4.1
        have h35c2 := RP_len hR4
        have h35s4 : cnt s4 35 = cnt s 35 := by rw [th_cnt hth4 (by decide)]; unfold cnt; rw [t3, t2 35 (by decide) (by decide)]
        have h35le : cnt s0 35 ≤ cnt s 35 := hST.2.1.1 35 (by simp)
        have k3 : KC r c0 (nwC c2 33) := KC_trans (by rw [RP_len hRz, h35c2]; omega) k2 (KC_new hn2 hR4.2.2.2.1.1 33)
        have k4 : KC r c0 c4 := KC_trans (by rw [RP_len hRz, RP_len hR4']; omega) k3 hST5.1
        have ha00 : cCl c0 (cNx c2) = 0 := (hnc0 _ k2.1).1
        have k5 : KC r c0 (wkC c4 (cNx c2) (Int32.ofNat k) (.ref a) (.ref a2)) := KC_R ha00 (KC_R ha00 (KC_I ha00 k4))
        have rw5 : ∀ b, raw c0 b → raw (wkC c4 (cNx c2) (Int32.ofNat k) (.ref a) (.ref a2)) b := raw_R ha00 (raw_R ha00 (raw_I (fun b q => hST5.2.2.2.2.2.2 b (nw_raw hn2 33 b (hST4.2.2.2.2.2.2 b (hST1.2.2.2.2.2.2 b (hST.2.2.2.2.2.2 b q)))))))
        -- the reference's links
        have h65s4 : cnt s4 65 = cnt s 65 + 1 := by rw [th_cnt hth4 (by decide)]; unfold cnt at m65 ⊢; rw [t3]; exact m65
        have o4 : ∀ z y, tA s4 z y = tA s3 z y := fun z y => th_A hth4 (by simp) y
        have o5 : ∀ y, y < cnt s 65 + 1 → ∀ z, z ∈ [66, 67, 68, 69, 70, 71, 72] → tA s5 z y = tA s3 z y := fun y hy z hz => by rw [hST5.2.2.1 y (by omega) z hz, o4]
        have n3 : ∀ z, z ≠ 70 → z ≠ 72 → ∀ y, tA s3 z y = tA s2 z y := fun z h1 h2 y => by rw [hs3']; simp only [gT, h1, h2, false_and, if_false]
        have f70N : tA s5 70 (cnt s 65) = Int32.ofNat x := by
          rw [o5 _ (by omega) 70 (by simp), hs3']; simp [gT]
        have f71x : tA s5 71 x = -1 := by
          rw [o5 x (by omega) 71 (by simp), n3 71 (by decide) (by decide), o2 x hx1]; exact h71
        have hy9 : y < 900 := by have := hR5.2.2.2.1.2.1.2.2.2.2.1.2; omega
        have hyN : y ≠ cnt s 65 := by omega
        have hyx : y ≠ x := by omega
        have e10' := t_gets (dt + 23) (x := cnt s 65) (y := y) (ys := [x]) hR5'.2.1 hN9 hy9 ⟨f70N, hx9, f71x⟩
        have hs6' : gtT s5 (cnt s 65) y [x] = tsA (tsA s5 72 y (Int32.ofNat (cnt s 65))) 71 x (Int32.ofNat y) := rfl
        have hth6 := gt_th s5 (cnt s 65) y [x]
        generalize gtT s5 (cnt s 65) y [x] = s6 at e10' hs6' hth6
        rw [e10', b_V]
        have o6 : ∀ q, q ≠ x → q ≠ y → ∀ z, tA s6 z q = tA s5 z q := fun q h1 h2 z => by
          rw [hs6']; simp only [gT, h1, h2, and_false, if_false]
        have n6 : ∀ z, z ≠ 71 → z ≠ 72 → ∀ q, tA s6 z q = tA s5 z q := fun z h1 h2 q => by
          rw [hs6']; simp only [gT, h1, h2, false_and, if_false]
        have c67x5 : ca s5 67 x = cnt s 64 := by rw [ca_eq (o5 x (by omega) 67 (by simp)), ca_eq (n3 67 (by decide) (by decide) x)]; exact c67x
        have hs64' : cnt s4 64 = cnt s 64 := by rw [th_cnt hth4 (by decide)]; unfold cnt; rw [t3, t2 64 (by decide) (by decide)]
        have c67y5 : ca s5 67 y = cnt s 64 := by rw [(TR_root _ _ _ _ _ _ _ hTR2).2, hs64']
        have hou5 : Ou (cnt s 64) := hou
        have hR6 := P_links hR5' hth6 (fun q hq ho z _ => o6 q (by rintro rfl; exact ho (by rw [c67x5]; exact hou)) (by rintro rfl; exact ho (by rw [c67y5]; exact hou)) z)
        have k66 : tA s6 66 (cnt s 65) = Int32.ofNat k := by
          rw [n6 66 (by decide) (by decide), o5 _ (by omega) 66 (by simp), n3 66 (by decide) (by decide)]; exact m1
        have ck66 : ca s6 66 (cnt s 65) = k := ca_of k66 (by omega)
        have hR7 := P_close0 hR6 (by rw [ck66]; omega)
        have hR8 := RP_E (E' := E + (W + W2 + 8)) (by omega) hR7
        have n65s6 : cnt s6 65 = cnt s5 65 := th_cnt hth6 (by simp)
        have h65s5 : cnt s4 65 ≤ cnt s5 65 := hST5.2.1.1 65 (by simp)
        -- the reference's growth
        have kt1 : KT s0 s3 := KT_trans hST.2.1 (KT_trans hST1.2.1 (KT_trans hST2.2.1 (KT_of hth3 (by decide))))
        have kt2 : KT s0 s6 := KT_trans kt1 (KT_trans hST4.2.1 (KT_trans hST5.2.1 (KT_of hth6 (by decide))))
        have h50s4 : cnt s4 50 = cnt s 50 := by rw [th_cnt hth4 (by decide)]; unfold cnt; rw [t3, t2 50 (by decide) (by decide)]
        have hx05 : cnt s0 65 ≤ cnt s 65 := hST.2.1.1 65 (by simp)
        have z1 := hST5.2.2.2.1
        have z2 := hST5.2.2.2.2.1
        refine ⟨cNx c2, cnt s 65, _, s6, p5, f5, rfl, rfl, ⟨vo5, max g g2 + 1, W + W2 + 8, hR8, ⟨k5, kt2, fun q hq z hz => ?_, by omega, by omega, by have := hST.2.2.2.2.2.1; have := hST4.2.2.2.2.2.1; have := hST5.2.2.2.2.2.1; omega, rw5⟩, fun v hv => ?_, by omega, by omega, ?_, ?_, ?_, by have := hST5.2.2.2.2.2.1; omega⟩, by have := hST5.2.2.2.2.2.1; omega⟩
        · rw [o6 q (by omega) (by omega), o5 q (by omega) z hz, o3 q (by omega) (by omega), o2 q (by omega)]
          exact hST.2.2.1 q hq z hz
        · rw [hvo5 v (by rw [h50s4]; have := hST.2.1.1 50 (by simp); omega), hvo v hv]
        · -- the tree
          have hnc := hR.2.2.1
          have j2 : KC r c c2 := KC_trans (by rw [RP_len hR, RP_len hR1]; exact Nat.le_refl _) hST1.1 hST4.1
          have j3 : KC r c (nwC c2 33) := KC_trans (by rw [RP_len hR, h35c2]; omega) j2 (KC_new hn2 hR4.2.2.2.1.1 33)
          have j4 : KC r c c4 := KC_trans (by rw [RP_len hR, RP_len hR4']; omega) j3 hST5.1
          have hac0 : cCl c (cNx c2) = 0 := (hnc _ j2.1).1
          have j5 : KC r c (wkC c4 (cNx c2) (Int32.ofNat k) (.ref a) (.ref a2)) := KC_R hac0 (KC_R hac0 (KC_I hac0 j4))
          have jt : KT s s6 := KT_trans hST1.2.1 (KT_trans hST2.2.1 (KT_trans (KT_of hth3 (by decide)) (KT_trans hST4.2.1 (KT_trans hST5.2.1 (KT_of hth6 (by decide))))))
          have hu0 : cnt s0 64 < cnt s 35 := by rw [← hs64]; exact hcu.2.1
          have hv1 := hR.2.2.2.1.2.2.2.2.2.2.1
          have hv5 := hR5.2.2.2.1.2.2.2.2.2.2.1
          have r70 : ∀ z, z ∈ [66, 67, 68, 69, 70] → tA s3 z x = tA s2 z x := fun z hz => by
            have : z ≠ 72 := by rintro rfl; simp at hz
            rw [hs3']; simp only [gT, hxN, this, and_false, false_and, if_false]
          have m72 : ∀ z, z ∈ [66, 67, 68, 69, 70] → z ∈ [66, 67, 68, 69, 70, 71, 72] := fun z hz => by simp only [List.mem_cons, List.not_mem_nil, or_false] at hz ⊢; omega
          have tra := TR_mono j5 jt (RP_len hR) (fun v hv => (hv1.2.1 v hv).2.2.1) (fun q hq z hz => by rw [o6 q hq.2.2 (by omega), o5 q (by omega) z hz, o3 q hq.2.2 (by omega), o2 q hq.2.1]) hu0 g H D a x W (fun z hz => by
            have h1 : z ≠ 71 := by rintro rfl; simp at hz
            have h2 : z ≠ 72 := by rintro rfl; simp at hz
            rw [n6 z h1 h2, o5 x (by omega) z (m72 z hz), r70 z hz, o2 x hx1]) hTR
          have i5 : KC r c4 (wkC c4 (cNx c2) (Int32.ofNat k) (.ref a) (.ref a2)) := KC_of hch5 hR5.2.2.2.1.1 (Nat.le_refl _) (by decide)
          have hu5 : cnt s4 64 < cnt s5 35 := by rw [hs64']; have := hST5.2.1.1 35 (by simp); have := hcu.2.1; omega
          have trb := TR_mono i5 (KT_of hth6 (by decide)) (RP_len hR5) (fun v hv => (hv5.2.1 v hv).2.2.1) (fun q hq z hz => o6 q (by omega) hq.2.2 z) hu5 g2 (H - 1) D a2 y W2 (fun z hz => by
            have h1 : z ≠ 71 := by rintro rfl; simp at hz
            have h2 : z ≠ 72 := by rintro rfl; simp at hz
            rw [n6 z h1 h2]) hTR2
          have tra' := TR_le (Nat.le_max_left g g2) (TR_Q (Q' := fun q => cnt s0 65 ≤ q ∧ q < cnt s6 65 ∧ q ≠ cnt s 65) (fun q hq => ⟨hq.1, by omega, by omega⟩) _ _ _ _ _ _ _ tra)
          have trb' := TR_le (Nat.le_max_right g g2) (TR_Q (Q' := fun q => cnt s0 65 ≤ q ∧ q < cnt s6 65 ∧ q ≠ cnt s 65) (fun q hq => ⟨by omega, by omega, by omega⟩) _ _ _ _ _ _ _ trb)
          rw [hs64', hs64] at trb'
          have k67 : tA s6 67 (cnt s 65) = Int32.ofNat (cnt s 64) := by
            rw [n6 67 (by decide) (by decide), o5 _ (by omega) 67 (by simp), n3 67 (by decide) (by decide), m2]; exact hcu.1.1
          have hcu59 := hcu.1.2
          rw [TR]
          right
          refine ⟨by omega, aok_of k67 (by omega) (by omega), by rw [ca_of k67 (by omega), hs64], aok_of k66 (by omega) (by omega), by omega, by omega, ?_⟩
          right; right; right; right; left
          refine ⟨w33, by rw [w3300, k66], by rw [ck66]; exact hk.1, by rw [ck66]; exact hk.2, a, a2, x, W, W2, w3301, w3302, ?_, hx9, ?_, ⟨by omega, by omega, by omega⟩, tra', ⟨y, W2, 0, ?_, hy9, ⟨⟨by omega, by omega, by omega⟩, trb'⟩, by omega, ?_⟩, by omega⟩
          · rw [n6 70 (by decide) (by decide)]; exact f70N
          · rw [hs6']
            simp only [gT]
            rw [if_neg (by simp), if_neg (by omega), o5 x (by omega) 72 (by simp), hs3']
            simp [gT]
          · rw [hs6']; simp [gT]
          · show tA s6 71 y = -1
            rw [hs6']
            simp only [gT]
            rw [if_neg (by omega), if_neg (by simp)]
            exact h71y
        · rw [o6 _ (by omega) (by omega), o5 _ (by omega) 71 (by simp), n3 71 (by decide) (by decide)]; exact m6
        · refine KS_trans hKS (KS_trans (b := s4) ⟨?_, ?_, ?_, ?_, ?_⟩ (KS_trans hKS5 (KS_th hth6 (by decide))))
          · have q1 := K1_th (nd_th (ptT s) (Int32.ofNat k) 0 0) (by decide)
            rw [hs2] at q1
            exact K1_trans (K1_trans (KS_pt s).1 q1) (K1_trans (K1_th hth3 (by decide)) (K1_th hth4 (by decide)))
          · rw [th_cnt hth4 (by decide)]; unfold cnt; rw [t3, t2 56 (by decide) (by decide)]
          · intro i _
            rw [o4, n3 57 (by decide) (by decide), ← hs2, th_A (nd_th (ptT s) (Int32.ofNat k) 0 0) (by decide)]
            rfl
          · rw [th_cnt hth4 (by decide)]; unfold cnt; rw [t3, t2 63 (by decide) (by decide)]
          · exact hs64'
end
