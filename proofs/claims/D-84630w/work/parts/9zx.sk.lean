set_option maxRecDepth 100000
set_option maxHeartbeats 4000000
/-! D98: an asking, whole -/
section
variable {χ : Nat → Int32} {n t r : Nat} {Oa Ou : Nat → Prop} {O : Nat}
theorem S_ask (dc dt : Nat) {H D lv : Nat} (hH : 2 ≤ H) (hsub : ∀ Oa', SP χ n t r Oa' Ou O lv H D (dc + 30) 813 (dt + 30) 40) (vo : Nat → Nat) (Op : Nat → Prop) (E p f : Nat) (c : cS) (s : tS) (hlv : cnt s 63 = lv) (hR : RP χ n t r p f vo Op Oa Ou E O c s) (h8 : tI s 8 = 2) (h11 : tI s 11 = 17 ∨ tI s 11 = 18) :
    PX χ n t r f p vo Op Oa Ou E O c s H D (cC (dc + 31) 837 [eR (.ref r)] c) (cT (dt + 31) 72 [eR (.ref 0)] s) := by
  have hS := hR.2.2.2.1.1
  have hw := hR.1.1.1.1
  have hl := hR.1.1.2.2.2.2.1.1
  have hfi := hR.2.1
  have hAt := hR.2.2.2.1.2.2.2.2.2.2.2.2.2.1
  have hlen := hAt.2.1
  have h24 := hAt.1.2
  have hz := RP_len hR
  obtain ⟨_, _, _, z4, z5⟩ := lx_mis hR.1 hfi 4 (by decide)
  have q24 : (Int32.ofNat (cnt s 48) < (24 : Int32)) = (cnt s 48 < 24) := z_lt (show cnt s 48 < 2147483648 by omega) (show 24 < 2147483648 by decide)
  have q24e : (Int32.ofNat (cnt s 48) = (24 : Int32)) = (cnt s 48 = 24) := z_eq (show cnt s 48 < 2147483648 by omega) (show 24 < 2147483648 by decide)
  rw [kX8_asking, r_cck, if_pos hS.1, uX8_asking, r_cgR, if_pos hS.1, hS.2.2.1, r_cgR, if_pos hS.2.2.2.2.1, hS.2.2.2.2.2.1.2.2.2.2.2.1, c_len (dc + 21) (RSt_aL hS) rfl, b_I, hlen, kX7_asking, uX7_asking]
  by_cases hlt : cnt s 48 < 24
  · have em : cC (dc + 30) 803 [eR (.ref r), eI 1, eI 4] c = some (.inl none, c) := (c_must (dc + 16) true 4 hS.1 hS.2.1 hw hl).trans (if_pos rfl)
    rw [if_pos (Eq.mpr q24 hlt), uX8_asking_10, em, b_V]
    refine J_part (dc + 15) (dt + 27) hR (fun hR1 hST1 h62 => ?_)
    have hS1 := hR1.2.2.2.1.1
    have hw1 := hR1.1.1.1.1
    have e48 : tI (ptT s) 48 = Int32.ofNat (cnt s 48) := hAt.1.1
    have n48 : ¬ tI (ptT s) 48 = (24 : Int32) := fun q => by rw [e48] at q; exact absurd (Eq.mp q24e q) (by omega)
    have hAt1 := hR1.2.2.2.1.2.2.2.2.2.2.2.2.2.1
    have hc48 : cnt (ptT s) 48 = cnt s 48 := rfl
    have hm : cnt (ptT s) 48 < 24 := hlt
    obtain ⟨c2, e2, hR2, hA2, hnull2, hraw2, hx2, hy2, hch2⟩ := P_askA (dc + 21) hR1 hm
    have hnp : cNx (ptC c r) = cNx c := rfl
    have hnp2 : cSl (ptC c r) = cSl c := rfl
    rw [hc48] at hR2 hA2 hnull2
    have hk11 : tI (tsI (ptT s) 48 (Int32.ofNat (cnt s 48 + 1))) 11 = tI s 11 := rfl
    have hkey : (cI (ptC c r) 1004 (r + 16) = 2 ∧ cI (ptC c r) 1006 (r + 16) = 18) = (tI s 8 = 2 ∧ tI s 11 = 18) := lx_key hR1.1 18
    have hp48 : Int32.ofNat (cnt s 48) + 1 = Int32.ofNat (cnt s 48 + 1) := z_add _ 1
    obtain ⟨kd, k, hkd, ek, er⟩ : ∃ (kd : Nat) (k : Int32), ((kd = 25 ∧ k = 0) ∨ (kd = 26 ∧ k = 1)) ∧ bi (decide (cI (ptC c r) 1004 (r + 16) = 2 ∧ cI (ptC c r) 1006 (r + 16) = 18)) = k ∧ (if tI (tsI (ptT s) 48 (Int32.ofNat (cnt s 48 + 1))) 11 = (17 : Int32) then fX7_asking_31 (cT (dt + 30)) (Int32.ofNat (cnt s 48)) 25 (tsI (ptT s) 48 (Int32.ofNat (cnt s 48 + 1))) else fX7_asking_31 (cT (dt + 30)) (Int32.ofNat (cnt s 48)) 26 (tsI (ptT s) 48 (Int32.ofNat (cnt s 48 + 1)))) = fX7_asking_31 (cT (dt + 30)) (Int32.ofNat (cnt s 48)) (Int32.ofNat kd) (tsI (ptT s) 48 (Int32.ofNat (cnt s 48 + 1))) := by
      rw [hk11]
      simp only [hkey]
      rcases h11 with q | q
      · exact ⟨25, 0, Or.inl ⟨rfl, rfl⟩, by rw [decide_eq_false (by rw [q]; rintro ⟨_, w⟩; exact absurd w (by decide))]; rfl, by rw [if_pos q]; rfl⟩
      · exact ⟨26, 1, Or.inr ⟨rfl, rfl⟩, by rw [decide_eq_true ⟨h8, q⟩]; rfl, by rw [if_neg (by rw [q]; decide)]; rfl⟩
    rw [if_neg n48, r_tpI, e48, RP_800 hR1, c_isKey (dc + 29) 18 hw1, b_I, ek, hp48] 
    rw [er]
    have hlen1 : (cLs (ptC c r) (r + 11)).length = cnt s 48 := hlen
    rw [r_cgR, if_pos hS1.1, hS1.2.2.1, r_cgR, if_pos hS1.2.2.2.2.1, hS1.2.2.2.2.2.1.2.2.2.2.2.1, c_len (dc + 21) (RSt_aL hS1) rfl, b_I, hlen1, r_cgR, if_pos hS1.1, hS1.2.2.1, r_cgR, if_pos hS1.2.2.2.2.1, hS1.2.2.2.2.2.1.2.2.2.2.2.1, e2, b_I, uX7_asking_31]
    have hn62 := hR.2.2.2.1.2.1.2.2.2.2.2
    have c265 : cnt (tsI (ptT s) 48 (Int32.ofNat (cnt s 48 + 1))) 65 = cnt s 65 := rfl
    have c262 : cnt (tsI (ptT s) 48 (Int32.ofNat (cnt s 48 + 1))) 62 = cnt s 62 + 1 := h62
    have hkd42 : kd ≤ 42 := by omega
    obtain ⟨e3, hR3, hST3⟩ := P_node (dt + 29) kd hkd42 (Int32.ofNat (cnt s 48)) 0 hR2 (by rw [c265, c262]; omega)
    obtain ⟨n1, n2, n3, n4, n5, n6, n7⟩ := nd_new (tsI (ptT s) 48 (Int32.ofNat (cnt s 48 + 1))) (Int32.ofNat kd) (Int32.ofNat (cnt s 48)) 0
    have nd65 := (nd_cnt (k := Int32.ofNat kd) (a := Int32.ofNat (cnt s 48)) (b := 0) hR2.2.2.2.1.2.1.2.2.2.2.1).1
    have hthd := nd_th (tsI (ptT s) 48 (Int32.ofNat (cnt s 48 + 1))) (Int32.ofNat kd) (Int32.ofNat (cnt s 48)) 0
    have hold : ∀ {y : Nat}, y ≠ cnt s 65 → ∀ z, tA (ndT (tsI (ptT s) 48 (Int32.ofNat (cnt s 48 + 1))) (Int32.ofNat kd) (Int32.ofNat (cnt s 48)) 0) z y = tA (tsI (ptT s) 48 (Int32.ofNat (cnt s 48 + 1))) z y := fun hy z => nd_old _ _ _ _ hy z
    have hA3 := aB_go hR1 hR2 hA2 (KC_refl r c2) hST3.2.1 (CH_refl [] [] [] [] c2) hthd (by decide) hST3.2.2.1
    have hKS2 : KS (ptT s) (tsI (ptT s) 48 (Int32.ofNat (cnt s 48 + 1))) := KS_th (TH_I (YI := [48]) (YL := []) (YA := []) (YB := []) (by simp) (TH_refl _ _ _ _ _)) (by decide)
    have hKS3 := KS_trans hKS2 (KS_th hthd (by decide))
    have e64 : tI (tsI (ptT s) 48 (Int32.ofNat (cnt s 48 + 1))) 64 = Int32.ofNat (cnt s 64) := hR.2.2.2.1.2.2.2.2.2.2.2.1.1.1.1
    have m83 : tI (ndT (tsI (ptT s) 48 (Int32.ofNat (cnt s 48 + 1))) (Int32.ofNat kd) (Int32.ofNat (cnt s 48)) 0) 8 = 2 := (th_I hthd (by decide)).trans h8
    rw [e3, b_I]
    rw [c265] at n1 n2 n3 n4 n5 n6 n7 nd65 hR3 ⊢
    rw [e64] at n2
    have m48 : cnt (ndT (tsI (ptT s) 48 (Int32.ofNat (cnt s 48 + 1))) (Int32.ofNat kd) (Int32.ofNat (cnt s 48)) 0) 48 = cnt s 48 + 1 := (th_cnt hthd (by decide)).trans (cnt_of (show tI (tsI (ptT s) 48 (Int32.ofNat (cnt s 48 + 1))) 48 = Int32.ofNat (cnt s 48 + 1) by rw [t_I_I, if_pos rfl]) (by omega))
    generalize ndT (tsI (ptT s) 48 (Int32.ofNat (cnt s 48 + 1))) (Int32.ofNat kd) (Int32.ofNat (cnt s 48)) 0 = s3 at *
    generalize tsI (ptT s) 48 (Int32.ofNat (cnt s 48 + 1)) = s2 at *
    rw [RP_800 hR2]
    rcases P_next (dc + 10) (dt + 10) hR3 with hb | ⟨c4, s4, p4, f4, e5, e6, hW4⟩
    · left
      obtain ⟨a9, c9, s9, k9, pl9, v1, v2, v3, v4, v5, v6, v7, v8⟩ := hb
      refine ⟨a9, c9, Int32.ofNat (cnt s 65), s9, k9, pl9, ?_, ?_, v3, v4, v5, v6, by omega, by omega⟩
      · rw [v1]; rfl
      · rw [v2, b_V, F_isName (dt + 27) (by rw [v4]; exact v6), b_I, if_pos rfl]
    obtain ⟨hS4, hS4'⟩ := WK_ST hR3 hW4
    obtain ⟨m1, m2, m3⟩ := hS4' (by rw [m83]; decide)
    have hR4 := hW4.1
    have hch4 := hW4.2.2.1
    have hth4 := hW4.2.2.2.1
    have oW4 : ∀ z y, tA s4 z y = tA s3 z y := fun z y => th_A hth4 (by simp) y
    have hA4 := aB_go hR1 hR3 hA3 hS4.1 hS4.2.1 hch4 hth4 (by decide) hS4.2.2.1
    have hKS4 := KS_trans hKS3 (KS_th hth4 (by decide))
    have hnull4 : nthD .null (cLs c4 (r + 11)) (cnt s 48) = .null := by
      rw [ch_Ls hch4 (RSt_aL hR2.2.2.2.1.1) (by decide) (by decide)]; exact hnull2
    have h484 : cnt s4 48 = cnt s 48 + 1 := (th_cnt hth4 (by decide)).trans m48
    have hfi4 := hR4.2.1
    have hl4 := hR4.1.1.2.2.2.2.1.1
    have hw4 := hR4.1.1.1.1
    have hS4s := hR4.2.2.2.1.1
    have h1004 : cI c4 1004 (r + 16) = tI s4 8 := hR4.1.2.2.2.2.1
    obtain ⟨_, y2, y3, _, _⟩ := lx_mis hR4.1 hfi4 1 (by decide)
    rw [e5, e6, b_V, b_V, c_name (dc + 15) hS4s.1 hS4s.2.1 hw4 hl4, h1004, t_isName (dt + 27), if_pos hfi4]
    by_cases hn1 : tI s4 8 = 1
    · have hname := (lw_1 hR4.1.2.2.2.2.2 hn1).2
      have hth5 : TH [] [] [136] [49] s4 (tsA (tsB s4 49 (cnt s 48) (tL s4 12)) 136 (cnt s 48) 0) := TH_A (by simp) (TH_B (by simp) (TH_refl _ _ _ _ s4))
      have ho5 : ∀ k, k ≠ cnt s 48 → tA (tsA (tsB s4 49 (cnt s 48) (tL s4 12)) 136 (cnt s 48) 0) 136 k = tA s4 136 k ∧ tB (tsA (tsB s4 49 (cnt s 48) (tL s4 12)) 136 (cnt s 48) 0) 49 k = tB s4 49 k := fun k hk => by
        simp [gT, hk]
      obtain ⟨hR5, hA5⟩ := P_ask136 (Oa' := fun k => Oa k ∨ k = cnt s 48) hR1 hR4 hA4 hth5 ho5 (fun k hk => ⟨hk, fun z => hk (Or.inr z)⟩) (fun k hk => hR4.2.2.2.2.2.2.2.1 k hk) (Or.inl hnull4) (fun k hk => Or.inl hk)
      have q49 : tB (tsA (tsB s4 49 (cnt s 48) (tL s4 12)) 136 (cnt s 48) 0) 49 (cnt s 48) = tL s4 12 := by simp [gT]
      have q136 : tA (tsA (tsB s4 49 (cnt s 48) (tL s4 12)) 136 (cnt s 48) 0) 136 (cnt s 48) = 0 := by simp [gT]
      have m85 : tI (tsA (tsB s4 49 (cnt s 48) (tL s4 12)) 136 (cnt s 48) 0) 8 = 1 := hn1
      have oW5 : ∀ z y, z ≠ 136 → tA (tsA (tsB s4 49 (cnt s 48) (tL s4 12)) 136 (cnt s 48) 0) z y = tA s4 z y := fun z y hz' => th_A hth5 (by simpa using hz') y
      have hKS5 := KS_trans hKS4 (KS_th hth5 (by decide))
      rw [if_pos hn1, b_L, if_pos hn1, b_I, if_neg (by decide), qs_49 hlt, qs_136 hlt _ _ (Or.inl rfl)]
      generalize tsA (tsB s4 49 (cnt s 48) (tL s4 12)) 136 (cnt s 48) 0 = s5 at *
      rw [RP_800 hR5]
      refine J_nx (dc + 10) (dt + 10) hR5 (by omega) (by omega) (fun s' q2 => ?_) (fun c6 s6 p6 f6 hW6 hST6 hp6 hslk6 => ?_)
      · rw [F_pattern (dt + 28) _ _ q2, b_V, F_isSign (dt + 28) _ q2, b_I, if_pos rfl]
        exact ⟨_, _, rfl, rfl, rfl⟩
      obtain ⟨m4, m5, m6⟩ := hslk6 (by rw [m85]; decide)
      have hR6 := hW6.1
      have hch6 := hW6.2.2.1
      have hth6 := hW6.2.2.2.1
      have oW6 : ∀ z y, tA s6 z y = tA s5 z y := fun z y => th_A hth6 (by simp) y
      have hA6 := aB_go hR1 hR5 hA5 hST6.1 hST6.2.1 hch6 hth6 (by decide) hST6.2.2.1
      have hKS6 := KS_trans hKS5 (KS_th hth6 (by decide))
      have hnull6 : nthD .null (cLs c6 (r + 11)) (cnt s 48) = .null := by
        rw [ch_Ls hch6 (RSt_aL hR4.2.2.2.1.1) (by decide) (by decide)]; exact hnull4
      have h486 : cnt s6 48 = cnt s 48 + 1 := by rw [th_cnt hth6 (by decide), th_cnt hth5 (by decide)]; exact h484
      have hk01 : k = 0 ∨ k = 1 := by
        rcases hkd with ⟨_, w⟩ | ⟨_, w⟩
        · exact Or.inl w
        · exact Or.inr w
      have e240 : (240 : Int32) + Int32.ofNat (cnt s 48) = Int32.ofNat (240 + cnt s 48) := z_add 240 _
      rw [e240]
      rcases P_askG (Oa' := Oa) (k := k) (b := cL c4 1007 (r + 16)) dc dt hk01 hR1 hR6 hA6 hnull6 (by rw [th_B hth6 (by decide), q49]; exact hname) (by rw [oW6]; exact q136) (fun j hj => by
          by_cases q : j = cnt s 48
          · exact Or.inr q
          · exact Or.inl (fun z => z.elim hj q)) (fun j hj => by have := hR.2.2.2.2.2.2.2.1 j hj; omega) (fun j hj _ => Or.inl hj) with ⟨a9, c9, s9, k9, pl9, v1, v2, v3, v4, v5, v6, v7, v8⟩ | ⟨c7, s7, p7, f7, v1, v2, hR7, hA7, hKC7, hKT7, hth7, m7, hp7, hx7, hy7, hraw7, x29, x01, x00, x03, xl⟩
      · left
        refine ⟨a9, c9, Int32.ofNat (cnt s 65), s9, k9, pl9, v1 _, ?_, v3, v4, v5, v6, by omega, by omega⟩
        rw [v2, b_V, F_isSign (dt + 28) _ (by rw [v4]; exact v6), b_I, if_pos rfl]
      · rw [v1, v2, b_V]
        have hU7 := hR7.2.2.2.1.2.2.2.2.2.1
        have hI7 := hR7.2.2.2.1.2.2.2.2.2.2.2.1
        have h60 := hU7.1.2
        have hKS7 := KS_trans hKS6 (KS_th hth7 (by decide))
        have c647 : cnt s7 64 = cnt s 64 := (KS_trans (KS_pt s) hKS7).2.2.2.2
        have h803 := hI7.1.2.2
        have hu7 : cnt s 64 < cnt s7 35 := by rw [← c647]; exact hI7.1.2.1
        rw [c647] at h803
        have hcu := (RUt_cap hU7 hu7).2.2.2
        have oN : ∀ z, z ∈ [66, 67, 68, 69, 70, 71, 72] → tA s7 z (cnt s 65) = tA s3 z (cnt s 65) := fun z hz' => by
          rw [th_A hth7 (by simp only [List.mem_cons, List.not_mem_nil, or_false] at hz' ⊢; omega), oW6, oW5 _ _ (by simp only [List.mem_cons, List.not_mem_nil, or_false] at hz' ⊢; omega), oW4]
        have g66 : tA s7 66 (cnt s 65) = Int32.ofNat kd := by rw [oN 66 (by simp)]; exact n1
        have g67 : tA s7 67 (cnt s 65) = Int32.ofNat (cnt s 64) := by rw [oN 67 (by simp)]; exact n2
        have g68 : tA s7 68 (cnt s 65) = Int32.ofNat (cnt s 48) := by rw [oN 68 (by simp)]; exact n3
        have g70 : tA s7 70 (cnt s 65) = -1 := by rw [oN 70 (by simp)]; exact n5
        have g71 : tA s7 71 (cnt s 65) = -1 := by rw [oN 71 (by simp)]; exact n6
        have h657 : cnt s 65 < cnt s7 65 := by rw [th_cnt hth7 (by decide), th_cnt hth6 (by decide), th_cnt hth5 (by decide), th_cnt hth4 (by decide), nd65]; omega
        obtain ⟨hR8, hKC8⟩ := P_f12 (u := cnt s 64) hR7 h657 (ca_of g67 (by omega)) (by rw [ca_of g66 (by omega)]; omega)
        have hch8 : CH [1612] [] [] [] c7 (csI c7 1612 (lid c7 (r + 8) (cnt s 64)) 1) := CH_I (by simp) (CH_refl _ _ _ _ c7)
        have hA8 := aB_go hR1 hR7 hA7 hKC8 (KT_refl s7) hch8 (TH_refl [] [] [] [] s7) (by decide) (fun _ _ _ _ => rfl)
        have hraw8 : ∀ b, raw c7 b → raw (csI c7 1612 (lid c7 (r + 8) (cnt s 64)) 1) b := raw_I (fun _ q => q)
        rw [r_cgR, if_pos hR7.2.2.2.1.1.1, h803, r_cpZ, if_pos ⟨hcu, Or.inr rfl⟩]
        have d12 : cI (csI c7 1612 (lid c7 (r + 8) (cnt s 64)) 1) 1612 (lid (csI c7 1612 (lid c7 (r + 8) (cnt s 64)) 1) (r + 8) (cnt s 64)) = 1 := by
          show cI (csI c7 1612 (lid c7 (r + 8) (cnt s 64)) 1) 1612 (lid c7 (r + 8) (cnt s 64)) = 1
          rw [g_I_I, if_pos ⟨rfl, rfl⟩]
        have d29 : cCl (csI c7 1612 (lid c7 (r + 8) (cnt s 64)) 1) (cNx c6) = 29 := x29
        have d01 : cI (csI c7 1612 (lid c7 (r + 8) (cnt s 64)) 1) 2901 (cNx c6) = k := by rw [g_I_I, if_neg (by simp)]; exact x01
        have d00 : cI (csI c7 1612 (lid c7 (r + 8) (cnt s 64)) 1) 2900 (cNx c6) = Int32.ofNat (cnt s 48) := by rw [g_I_I, if_neg (by simp)]; exact x00
        have d03 : cR (csI c7 1612 (lid c7 (r + 8) (cnt s 64)) 1) 2903 (cNx c6) = .null := x03
        have dl : nthD .null (cLs (csI c7 1612 (lid c7 (r + 8) (cnt s 64)) 1) (r + 11)) (cnt s 48) = .ref (cNx c6) := xl
        have dn : cNx (csI c7 1612 (lid c7 (r + 8) (cnt s 64)) 1) = cNx c7 ∧ cSl (csI c7 1612 (lid c7 (r + 8) (cnt s 64)) 1) = cSl c7 := ⟨rfl, rfl⟩
        have q1367 : tA s7 136 (cnt s 48) = 0 := by rw [th_A hth7 (by decide), oW6]; exact q136
        have hrawA : ∀ b, raw (ptC c r) b → raw c7 b := fun b q => hraw7 b (hST6.2.2.2.2.2.2 b (hS4.2.2.2.2.2.2 b (hraw2 b q)))
        generalize csI c7 1612 (lid c7 (r + 8) (cnt s 64)) 1 = c8 at *
        have hpp4 := hW4.2.1
        have hfp4 := hR4.1.2.1
        have hfp6 := hR6.1.2.1
        refine J_askE (Op := Op) (kd := kd) dc dt hH hsub hlv hkd (by omega) (fun Oa' z hRz hAz hthz => ?_) hz hR1 hA8 hR8 d12 d29 d01 d00 d03 dl g68 q1367 hlt
        have oz : ∀ w, w ≠ 136 → tA z w (cnt s 65) = tA s7 w (cnt s 65) := fun w hw' => th_A hthz (by simpa using hw') _
        exact aB_BS (N := 0) hR hST1 (KS_pt s) hR1 rfl hAz hRz (KS_trans hKS7 (KS_th hthz (by decide))) (by rw [th_cnt hthz (by decide)]; exact h657) (by rw [oz 66 (by decide)]; exact g66) (by rw [oz 67 (by decide)]; exact g67) (by rw [oz 70 (by decide)]; exact g70) (by rw [oz 71 (by decide)]; exact g71) (by omega) (by omega) (by omega) (fun b q => hraw8 b (hrawA b q))
    · left
      rw [if_neg hn1, b_Lx, if_neg hn1, b_I, if_pos rfl]
      exact j_mis hR4 1 (by decide) (by omega) (by omega) (s1 := fH s4 1 (if tI s4 8 = 0 then tI s4 4 else tI s4 9)) rfl rfl rfl ⟨y2, y3⟩
  · left
    have em : cC (dc + 30) 803 [eR (.ref r), eI 0, eI 4] c = some (.inr (.ref (cNx c)), wH c 4 (cI c 1005 (r + 16))) := (c_must (dc + 16) false 4 hS.1 hS.2.1 hw hl).trans (if_neg (by decide))
    have h48 : tI s 48 = (24 : Int32) := by rw [hAt.1.1, show cnt s 48 = 24 by omega]; rfl
    rw [if_neg (fun q => hlt (Eq.mp q24 q)), uX8_asking_10, em, b_Vx, t_counts (dt + 27), if_pos hfi]
    by_cases q : tI s 62 = 400
    · rw [if_pos q, b_I, if_pos rfl]
      exact j_mis hR 4 (by decide) (Nat.le_refl _) (Nat.le_refl _) (s1 := fH s 4 (tI s 9)) rfl (by rw [t_I_I, if_neg (by decide)]) (by rw [t_I_I, if_neg (by decide)]) ⟨z4, z5⟩
    · have a1 : tI (tsI s 62 (tI s 62 + 1)) 6 = 0 := hfi
      rw [if_neg q, b_I, if_neg (by decide), if_pos (show tI (tsI s 62 (tI s 62 + 1)) 48 = 24 from h48), t_fails (dt + 28), b_V]
      exact j_mis hR 4 (by decide) (Nat.le_refl _) (Nat.le_refl _) (s1 := fH s 4 (tI s 9)) rfl (by rw [(fH_6 a1).1, (fH_6 hfi).1]) (by rw [(fH_6 a1).2, (fH_6 hfi).2]; rfl) ⟨z4, z5⟩
end
