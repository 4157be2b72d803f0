set_option maxRecDepth 100000
set_option maxHeartbeats 4000000
/-! D110: a grant, whole -/
section
variable {χ : Nat → Int32} {n t r p f : Nat} {c c' : cS} {s s' : tS}
theorem TH_kp (s : tS) (q m : Nat) : TH [] [] [18, 19] [17] s (kpT s q m) := kp_th s q m
theorem gr_grant (dc dt : Nat) {c0 : cS} {f0 : Nat} (h : R1 χ n t r p f c s) (h8 : tI s 8 ≠ 0) (k1 : cNx c + 300 * (n - f) ≤ cNx c0 + 300 * (n - f0)) (k2 : cSl c + 2000 * (n - f) ≤ cSl c0 + 2000 * (n - f0)) :
    pN n f0 c0 (cC (dc + 31) 802 [eR (.ref r)] c) (cT (dt + 31) 22 [eR (.ref 0)] s) ∨ ∃ c' s' p' f', cC (dc + 31) 802 [eR (.ref r)] c = some (.inl none, c') ∧ cT (dt + 31) 22 [eR (.ref 0)] s = some (.inl none, s') ∧ R1 χ n t r p' f' c' s' ∧ f < f' ∧ cNx c' + 300 * (n - f') ≤ cNx c0 + 300 * (n - f0) ∧ cSl c' + 2000 * (n - f') ≤ cSl c0 + 2000 * (n - f0) := by
  obtain ⟨hL, hfi, hn, ⟨hS, hC, hG⟩, hzz, hll⟩ := id h
  have hw := hL.1.1.1
  have hl := hL.1.2.2.2.2.1.1
  have hgl : cCl c (r + 2) = 5900 := hS.2.2.2.2.2.2.1
  have hlen := hG.2.1.1
  have h20 := hG.1.2
  have e20 := hG.1.1
  have q8 := z_lt (show cnt s 20 < 2147483648 by omega) (show 8 < 2147483648 by decide)
  have q8e := z_eq (show cnt s 20 < 2147483648 by omega) (show 8 < 2147483648 by decide)
  obtain ⟨_, _, _, z4, z5⟩ := lx_mis hL hfi 4 (by decide)
  rw [kX8_grant, r_cck, if_pos hS.1, uX8_grant, r_cgR, if_pos hS.1, hS.2.2.1, r_cgR, if_pos hS.2.2.2.2.1, hS.2.2.2.2.2.1.1, c_len (dc + 21) hgl rfl, b_I, hlen, kX7_grant, uX7_grant, e20]
  by_cases hlt : cnt s 20 < 8
  · have em : cC (dc + 30) 803 [eR (.ref r), eI 1, eI 4] c = some (.inl none, c) := (c_must (dc + 16) true 4 hS.1 hS.2.1 hw hl).trans (if_pos rfl)
    rw [if_pos (Eq.mpr q8 hlt), uX8_grant_10, em, b_V, r_cgR, if_pos hS.1, hS.2.1, if_neg (fun q => by have := Eq.mp q8e q; omega)]
    generalize hg : cnt s 20 = g at *
    rcases J_next (dc + 10) (dt + 10) hL.1 hfi with hb | ⟨c1, s1, p1, f1, e1, e2, hok1⟩
    · left
      refine pN_lx hb (f1 := f) (by omega) (by omega) (fun a c' q => by rw [q]; rfl) (fun s' q1 q2 => ?_)
      rw [q1, b_V]
      have e20' : tI s' 20 = Int32.ofNat g := (th_I (J_next_fr (dt + 10) hL hfi q1) (by decide)).trans e20
      rw [e20', qs_23 (by omega)]
      have q2' : tI (tsA s' 23 g 0) 6 ≠ 0 := q2
      have e20'' : tI (tsA s' 23 g 0) 20 = Int32.ofNat g := e20'
      obtain ⟨s'', g1, g2, g3⟩ := F_grant26 dt q2'
      rw [e20'', F_pattern (dt + 28) _ _ q2', b_V, F_sign (dt + 26) _ q2', b_V]
      exact ⟨s'', g1, g2, g3⟩
    have hn1 := cC_cln e1 hn
    have h1 := R1_ok h hn1 hok1
    obtain ⟨y1, y2, y3, y4, y5, y6, y7, y8⟩ := LXR hL hok1
    obtain ⟨m1, m2, m3⟩ := y8 h8
    obtain ⟨hL1, hfi1, _, ⟨hS1, hC1, hG1⟩, hzz1, hll1⟩ := id h1
    have hth1 := TH_of_LF hok1.2.2.2.2.2.1
    have e201 : tI s1 20 = Int32.ofNat g := (th_I hth1 (by decide)).trans e20
    have c201 : cnt s1 20 = g := cnt_of e201 (by omega)
    have ha1 : cCl c1 (cNx c1) = 0 := (hn1 _ (Nat.le_refl _)).1
    have hnw : cmore (csCl c1 (cNx c1) 13) (csz 13) = nwC c1 13 := rfl
    have hchn := nw_ch hn1 13
    have hn2 : CLN (nwC c1 13) := CLN_new hn1
    have hth2 : TH [] [] [23] [] s1 (tsA s1 23 g 0) := TH_A (by simp) (TH_refl _ _ _ _ s1)
    have hX2 : LX χ n (r + 16) t 4 (r + 19) (r + 17) p1 f1 (nwC c1 13) (tsA s1 23 g 0) := LX_ch hchn hth2 rfl rfl (by decide) hL1
    have hr2 : cCl (nwC c1 13) r = 8 := ch_cl hchn hS1.1 (by decide)
    have hrw2 : cR (nwC c1 13) 800 r = .ref (r + 16) := hS1.2.1
    have z1 : cNx (nwC c1 13) = cNx c1 + 1 := rfl
    have z2 : cSl (nwC c1 13) = cSl c1 + 2 := rfl
    have e8g : (8 : Int32) + Int32.ofNat g = Int32.ofNat (8 + g) := z_add 8 g
    have e202 : tI (tsA s1 23 g 0) 20 = Int32.ofNat g := e201
    have FHg : ∀ s' : tS, tI s' 6 ≠ 0 → ∃ s'', (bV (cT (dt + 30) 26 [eR (.ref 0), eI 123] s') fun h4 => fX7_grant_26 (cT (dt + 30)) h4) = some (.inl none, s'') ∧ tI s'' 6 = tI s' 6 ∧ tI s'' 7 = tI s' 7 := fun s' q2 => by
      rw [F_sign (dt + 26) _ q2, b_V]
      exact F_grant26 dt q2
    rw [e1, e2, b_V, b_V, r_cnw, hnw, e201, qs_23 (by omega), e202, e8g]
    rcases J_pat (dc + 9) (dt + 9) (q := 8 + g) (by omega) hr2 hrw2 hX2 hfi1 with ⟨a9, c9, s9, k9, pl9, v1, v2, v3, v4, v5, v6, v7, v8⟩ | ⟨h48, P, c3, s3, p3, f3, e3, e4, l, tl, hok3, hP, hgs, hl5, htl, h14, h15, h13⟩
    · left
      refine pN_up ⟨a9, c9, s9, k9, pl9, v1, v2, v3, v4, v5, v6, by omega, by omega⟩ (f1 := f1) (c1 := nwC c1 13) (by omega) (by omega) (fun a c' q => by rw [q]; rfl) (fun s' q1 q2 => ?_)
      rw [q1, b_V]
      exact FHg s' q2
    obtain ⟨hX3, hp3, hfi3, h73, hF3, hG3, _⟩ := id hok3
    obtain ⟨w1, w2, w3, w4, w5, w6, w7, w8⟩ := LXR (s := kpT (tsA s1 23 g 0) (8 + g) l.length) (LX_ch (CH_refl [] [] [] [] _) (TH_kp _ _ _) rfl rfl (by decide) hX2) hok3
    have hst2 : cCl (nwC c1 13) (r + 17) ≠ 6200 := by
      rw [ch_cl hchn hL1.1.2.2.2.1.2.1 (by decide)]; decide
    have hch3 := CH_of_LF hF3 hn2 hst2
    have hn3 : CLN c3 := cC_cln e3 hn2
    have hth3 := TH_of_LF hG3
    have hkp := TH_kp (tsA s1 23 g 0) (8 + g) l.length
    have ha3 : cCl c3 (cNx c1) = 13 := ch_cl hch3 (nw_cl c1 13) (by decide)
    have h03 : cCl c3 (cNx c3) = 0 := (hn3 _ (Nat.le_refl _)).1
    have ei := c_gi (dc + 19) (P := P) ha3 h03
    have hnl : ¬ live c1 (cNx c1) := fun q => q.1 ha1
    have hx3 : cNx c1 ≤ cNx c3 := hF3.1.trans' (by rw [z1]; omega)
    have h0L : cCl c1 (cNx c3) = 0 := (hn1 _ hx3).1
    have hch13 : CH [1003, 1004, 1005, 1006] [1007] [1008] [] c1 c3 := CH_trans (by decide) (CH_wk (by decide) hchn) hch3
    have hchN : CH [] [] [] [] c3 (nlC c3 6301 2) := by
      have h1 := nw_ch hn3 11301
      exact CH_more (CH_Cap (CH_Cl h03 h1))
    have hch14 : CH [1003, 1004, 1005, 1006] [1007] [1008] [] c1 (csR (csR (nlC c3 6301 2) 1301 (cNx c1) (.ref (cNx c3))) 1300 (cNx c1) (.ref P)) := CH_R (Or.inr hnl) (CH_R (Or.inr hnl) (CH_trans (by decide) hch13 (CH_wk (by decide) hchN)))
    have hn4 : CLN (csR (csR (nlC c3 6301 2) 1301 (cNx c1) (.ref (cNx c3))) 1300 (cNx c1) (.ref P)) := cC_cln ei hn3
    have hne3 : cNx c1 ≠ cNx c3 := fun q => by rw [q, h03] at ha3; cases ha3
    have hS4 : RSt r (csR (csR (nlC c3 6301 2) 1301 (cNx c1) (.ref (cNx c3))) 1300 (cNx c1) (.ref P)) := RSt_fr hch14 (by decide) hS1
    have hgl1 : cCl c1 (r + 2) = 5900 := hS1.2.2.2.2.2.2.1
    have hgl4 : cCl (csR (csR (nlC c3 6301 2) 1301 (cNx c1) (.ref (cNx c3))) 1300 (cNx c1) (.ref P)) (r + 2) = 5900 := hS4.2.2.2.2.2.2.1
    have hls4 : cLs (csR (csR (nlC c3 6301 2) 1301 (cNx c1) (.ref (cNx c3))) 1300 (cNx c1) (.ref P)) (r + 2) = cLs c1 (r + 2) := ch_Ls hch14 hgl1 (by decide) (by decide)
    have hlen1 : (cLs c1 (r + 2)).length = g := by have := hG1.2.1.1; rw [c201] at this; exact this
    obtain ⟨c5, e5, hLA⟩ := c_add (dc + 21) hgl4 rfl (by rw [hls4, hlen1]; omega) (.ref (cNx c1))
    have hn5 : CLN c5 := cC_cln e5 hn4
    have hch45 := LA_ch hLA hgl4
    have hch15 : CH [1003, 1004, 1005, 1006] [1007] [1008] [5900] c1 c5 := CH_trans (by decide) (CH_wk (by decide) hch14) (CH_wk (by decide) hch45)
    have hls5 : cLs c5 (r + 2) = cLs c1 (r + 2) ++ [.ref (cNx c1)] := by rw [hLA.2.2.1, hls4]
    have g4R : ∀ x b, cR c5 x b = cR (csR (csR (nlC c3 6301 2) 1301 (cNx c1) (.ref (cNx c3))) 1300 (cNx c1) (.ref P)) x b := fun x b => by rw [hLA.2.1.2.2.1]
    have d1 : cR c5 1300 (cNx c1) = .ref P := by rw [g4R, g_R_R, if_pos ⟨rfl, rfl⟩]
    have d2 : cR c5 1301 (cNx c1) = .ref (cNx c3) := by rw [g4R, g_R_R, if_neg (by simp), g_R_R, if_pos ⟨rfl, rfl⟩]
    have g4C : ∀ b, cCl c5 b = cCl (csR (csR (nlC c3 6301 2) 1301 (cNx c1) (.ref (cNx c3))) 1300 (cNx c1) (.ref P)) b := fun b => by rw [hLA.2.1.2.2.2.2.2.1]
    have d3 : cCl c5 (cNx c1) = 13 := by rw [g4C]; simp [nlC, nwC, gC, hne3, ha3]
    have d4 : cCl c5 (cNx c3) = 6301 := by rw [g4C]; simp [nlC, nwC, gC]
    have d5 : cLs c5 (cNx c3) = [] := by
      have hne : cNx c3 ≠ r + 2 := fun q => by rw [q] at h0L; rw [h0L] at hgl1; cases hgl1
      rw [hLA.2.2.2 _ hne]
      show cLs c3 (cNx c3) = []
      exact (hn3 _ (Nat.le_refl _)).2.2.2.1
    have hch35 : CH [] [] [1300, 1301] [5900] c3 c5 := CH_trans (by decide) (CH_wk (by decide) (CH_R (XI := []) (XL := []) (XR := [1300, 1301]) (XC := []) (Or.inl (by simp)) (CH_R (Or.inl (by simp)) (CH_wk (by decide) hchN)))) (CH_wk (by decide) hch45)
    have hthA : TH [8, 9, 10, 11, 14, 15] [12] [18, 19, 23] [13, 17] s1 s3 := TH_trans (TH_wk (by decide) hth2) (TH_trans (TH_wk (by decide) hkp) (TH_wk (by decide) hth3))
    have hthv : TH [8, 9, 10, 11, 14, 15, 20] [12] [18, 19, 23] [13, 17] s1 (tsI s3 20 (Int32.ofNat (g + 1))) := TH_trans (TH_wk (by decide) hthA) (TH_I (by simp) (TH_refl _ _ _ _ s3))
    have h18 : ∀ q, q ≠ 8 + g → tA s3 18 q = tA s1 18 q ∧ tA s3 19 q = tA s1 19 q ∧ ∀ i, i < 5 → tB s3 17 (5 * q + i) = tB s1 17 (5 * q + i) := fun q hq => by
      obtain ⟨x1, x2, x3⟩ := kp_old (tsA s1 23 g 0) (n := l.length) hq (by omega)
      refine ⟨?_, ?_, fun i hi => ?_⟩
      · rw [th_A hth3 (by decide), x1]; simp [gT]
      · rw [th_A hth3 (by decide), x2]; simp [gT]
      · rw [th_B hth3 (by decide), x3 i hi]; rfl
    have h23 : ∀ k, k ≠ g → tA s3 23 k = tA s1 23 k := fun k hk => by
      rw [th_A hth3 (by decide), th_A hkp (by decide), t_A_A, if_neg (fun q => hk q.2)]
    have h23g : tA s3 23 g = Int32.ofNat 0 := by
      rw [th_A hth3 (by decide), th_A hkp (by decide), t_A_A, if_pos ⟨rfl, rfl⟩]; rfl
    have h24 : ∀ j, tB s3 24 j = tB s1 24 j := fun j => th_B hthA (by decide) j
    obtain ⟨n1, n2, n3⟩ := kp_new (tsA s1 23 g 0) (8 + g) l.length
    have hpP : pOK c5 (tsI s3 20 (Int32.ofNat (g + 1))) P (8 + g) := by
      refine ⟨l, tl, PT_fr hch35 (by decide) (by decide) hP, hgs, by omega, htl, ?_, ?_, fun i hi => ?_⟩
      · show tA s3 18 (8 + g) = _
        rw [th_A hth3 (by decide), n1]; exact h14
      · show tA s3 19 (8 + g) = _
        rw [th_A hth3 (by decide), n2]; exact h15
      · show tB s3 17 (5 * (8 + g) + i) = _
        rw [th_B hth3 (by decide), n3 i hi]; exact h13 i hi
    have c20v : cnt (tsI s3 20 (Int32.ofNat (g + 1))) 20 = g + 1 := cnt_of (by rw [t_I_I, if_pos rfl]) (by omega)
    have lold : ∀ k, k < g → lid c5 (r + 2) k = lid c1 (r + 2) k ∧ nthD .null (cLs c5 (r + 2)) k = nthD .null (cLs c1 (r + 2)) k := fun k hk => by
      have e : nthD .null (cLs c5 (r + 2)) k = nthD .null (cLs c1 (r + 2)) k := by rw [hls5]; exact lst_lt _ _ _ (by rw [hlen1]; exact hk)
      exact ⟨by unfold lid; rw [e], e⟩
    have lnew : nthD .null (cLs c5 (r + 2)) g = .ref (cNx c1) := by rw [hls5, ← hlen1]; exact lst_end _ _
    have lidg : lid c5 (r + 2) g = cNx c1 := lid_at lnew
    have hG5 : RGt r c5 (tsI s3 20 (Int32.ofNat (g + 1))) := by
      refine ⟨cok_of (by rw [t_I_I, if_pos rfl]) (by omega) (by omega), ?_, fun k hk => ?_⟩
      · rw [c20v]
        refine ⟨by rw [hls5, List.length_append, hlen1]; rfl, fun k hk => ?_⟩
        by_cases e : k = g
        · rw [e, lidg, lnew]; exact ⟨rfl, d3⟩
        · obtain ⟨x1, x2⟩ := lold k (by omega)
          obtain ⟨x3, x4⟩ := hG1.2.1.2 k (by rw [c201]; omega)
          rw [x1, x2]; exact ⟨x3, ch_cl hch15 x4 (by decide)⟩
      · rw [c20v] at hk
        by_cases e : k = g
        · rw [e, lidg]
          refine ⟨P, cNx c3, d1, hpP, d2, d4, aok_of (k := 0) h23g (by decide) (by decide), ?_, fun i hi => ?_⟩
          · have e0 : ca (tsI s3 20 (Int32.ofNat (g + 1))) 23 g = 0 := ca_of (k := 0) h23g (by decide)
            rw [e0]
            exact ⟨by rw [d5]; rfl, fun i hi => absurd hi (by omega)⟩
          · have e0 : ca (tsI s3 20 (Int32.ofNat (g + 1))) 23 g = 0 := ca_of (k := 0) h23g (by decide)
            rw [e0] at hi; omega
        · obtain ⟨x1, x2⟩ := lold k (by omega)
          obtain ⟨P2, L2, y1', y2', y3', y4'⟩ := hG1.2.2 k (by rw [c201]; omega)
          have hck := (hG1.2.1.2 k (by rw [c201]; omega)).2
          rw [x1, ch_R hch15 hck (by decide) (by decide), ch_R hch15 hck (by decide) (by decide)]
          exact ⟨P2, L2, y1', pOK_ix hch15 (by decide) (by decide) (h18 (8 + k) (by omega)) y2', y3', rOK_ix hch15 (by decide) (by decide) (by decide) (by decide) (by decide) (h23 k e) (fun i _ => h24 _) (fun i hi => h18 _ (by omega)) y4'⟩
    have hX5 : LX χ n (r + 16) t 4 (r + 19) (r + 17) p3 f3 c5 (tsI s3 20 (Int32.ofNat (g + 1))) := LX_ch hch35 (TH_I (YI := [20]) (YL := []) (YA := []) (YB := []) (by simp) (TH_refl _ _ _ _ s3)) (by rw [hLA.2.1.2.2.2.1]; rfl) (by rw [hLA.2.1.2.2.2.2.1]; rfl) (by decide) hX3
    have hR5 := R1_fr h1 hX5 hfi3 hn5 hch15 hthv hG5 (by decide)
    have ho : R1o χ n t r g (cNx c3) p3 f3 c5 s3 := by
      refine ⟨hR5, (th_I hthA (by decide)).trans e201, hlt, by rw [lidg]; exact d2, fun k hk q => ?_⟩
      obtain ⟨x1, x2⟩ := lold k hk
      obtain ⟨P2, L2, y1', y2', y3', y4'⟩ := hG1.2.2 k (by rw [c201]; omega)
      have hck := (hG1.2.1.2 k (by rw [c201]; omega)).2
      rw [x1, ch_R hch15 hck (by decide) (by decide), y3'] at q
      rw [Value.ref.inj q] at y4'
      rw [y4'.1] at h0L; cases h0L
    have nx5 : cNx c5 ≤ cNx c3 + 3 := by
      have := hLA.1.2.1
      have e : cNx (csR (csR (nlC c3 6301 2) 1301 (cNx c1) (.ref (cNx c3))) 1300 (cNx c1) (.ref P)) = cNx c3 + 2 := rfl
      omega
    have sl5 : cSl c5 ≤ cSl c3 + 60 := by
      have := hLA.1.2.2.2
      have e : cSl (csR (csR (nlC c3 6301 2) 1301 (cNx c1) (.ref (cNx c3))) 1300 (cNx c1) (.ref P)) = cSl c3 + 5 := rfl
      rw [hls4, hlen1] at this
      omega
    obtain ⟨q1, q2⟩ := lexEq20 s3 (Int32.ofNat (g + 1))
    have hS5 := hR5.2.2.2.1.1
    rw [e3, e4, b_R, b_V, ei, b_V, r_cgR, if_pos hS4.1, hS4.2.2.1, r_cgR, if_pos hS4.2.2.2.2.1, hS4.2.2.2.2.2.1.1, e5, b_I, r_cgR, if_pos hS5.1, hS5.2.1]
    rcases J_signO (dc + 8) (dt + 9) 123 hX5 (q := s3) hfi3 hfi3 q1 q2 (lx_sgn hX5 (by decide)) with hb | ⟨hq, c6, z, p6, f6, e6, e7, hz, hok6⟩
    · left
      refine pN_lx hb (f1 := f3) (by omega) (by omega) (fun a c' q => by rw [q]; rfl) (fun s' q1 q2 => ?_)
      rw [q1, b_V]
      exact F_grant26 dt q2
    · have hn6 := cC_cln e6 hn5
      have ho6 := R1o_ok ho hn6 hz hok6
      obtain ⟨x1, x2, x3, x4, x5, x6, x7, x8⟩ := LXR hX5 hok6
      have hch6 := CH_of_LF hok6.2.2.2.2.1 hn5 (by rw [hX5.1.2.2.2.1.2.1]; decide)
      have hgl5 : cCl c5 (r + 2) = 5900 := hS5.2.2.2.2.2.2.1
      rw [e6, e7, b_V, b_V]
      rcases gr_loop dc dt (n - f6) p6 f6 c6 z (Nat.le_refl _) ho6 ((ch_lid hch6 hgl5 (by decide) (by decide) g).trans lidg) (by omega) (by omega) with hb | ⟨c7, s7, p7, f7, g1, g2, g3, g4, g5, g6⟩
      · left; exact hb
      · right; exact ⟨c7, s7, p7, f7, g1, g2, g3, by omega, g5, g6⟩
  · left
    have em : cC (dc + 30) 803 [eR (.ref r), eI 0, eI 4] c = some (.inr (.ref (cNx c)), wH c 4 (cI c 1005 (r + 16))) := (c_must (dc + 16) false 4 hS.1 hS.2.1 hw hl).trans (if_neg (by decide))
    have h8e : Int32.ofNat (cnt s 20) = (8 : Int32) := by rw [show cnt s 20 = 8 by omega]; rfl
    rw [if_neg (fun q => hlt (Eq.mp q8 q)), uX8_grant_10, em, b_Vx, if_pos h8e, t_fails (dt + 28), b_V]
    exact pN_mis hL hfi 4 (by decide) k1 k2 (s1 := fH s 4 (tI s 9)) rfl rfl rfl ⟨z4, z5⟩
end
