set_option maxRecDepth 100000
set_option maxHeartbeats 4000000
/-! D53: a try -/
def tyC (c : cS) (a : Nat) (v1 v2 v3 : Value) : cS := csR (csR (csR c 2100 a v1) 2102 a v2) 2101 a v3
theorem c_ty (d : Nat) {c : cS} {a : Nat} {v1 v2 v3 : Value} (ha : cCl c a = 21) (h1 : misR v1 = true) (h2 : misR v2 = true) (h3 : misR v3 = true) : cC (d + 11) 2100 [eR (.ref a), eR v1, eR v2, eR v3] c = some (.inl none, tyC c a v1 v2 v3) := by
  rw [kX21_init, r_cck, if_pos ha, uX21_init, kX18_init, uX18_init]
  simp only [pP, ha, h1, h2, h3, rC, bB, Nat.reduceDiv, Nat.reduceLeDiff, Nat.reduceLT,  eq_self, if_true, if_false, true_and, and_true, false_and, and_false, or_true, true_or, or_false, false_or, reduceIte, reduceCtorEq, Nat.reduceEqDiff, not_true_eq_false, not_false_eq_true, r_misN, r_misR, gC]
  rfl
section
variable {χ : Nat → Int32} {n t r : Nat} {Oa Ou : Nat → Prop} {O : Nat}
theorem S_try (dc dt : Nat) {H D D1 lv : Nat} (hn13 : n ≤ 1280) (hH : 1 ≤ H) (hD : D1 + 1 ≤ D) (hO : O + 4 ≤ 4 * lv) (hsub1 : SP χ n t r Oa Ou O lv H D1 (dc + 30) 813 (dt + 30) 40) (hsub2 : SP χ n t r Oa Ou O lv H D (dc + 30) 813 (dt + 29) 40) (vo : Nat → Nat) (Op : Nat → Prop) (E p f : Nat) (c : cS) (s : tS) (hlv : cnt s 63 = lv) (hR : RP χ n t r p f vo Op Oa Ou E O c s) (h8 : tI s 8 = 2) :
    PX χ n t r f p vo Op Oa Ou E O c s H D (cC (dc + 31) 822 [eR (.ref r)] c) (cT (dt + 31) 52 [eR (.ref 0)] s) := by
  have hz := RP_len hR
  have hc56 := hR.2.2.2.1.2.2.2.2.2.2.2.1.2.2.1.1
  rw [kX8_tried, r_cck, if_pos hR.2.2.2.1.1.1, uX8_tried, kX7_tryE, uX7_tryE]
  refine B_begin (dc + 15) (dt + 27) (dt + 29) (K := 19) (by decide) rfl hR (fun s1 hB1 _ _ hth1 => ?_)
  have hN9 : cnt s 65 < 900 := by have := hB1.2.2.2.2.1; have := hB1.1.2.2.2.1.2.1.2.2.2.2.1.2; omega
  generalize hNd : cnt s 65 = N at hB1 hN9 ⊢
  have hnp : cNx (ptC c r) = cNx c := rfl
  have hnp2 : cSl (ptC c r) = cSl c := rfl
  have htok1 : tI s1 8 ≠ 0 := by rw [th_I hth1 (by decide), h8]; decide
  rw [RP_800 hB1.1]
  have FHc : FH fun h8 => bI (cT (dt + 30) 21 [eR (.ref 0), eI 9] h8) fun v10 h9 => if v10 = 0 then bV (cT (dt + 30) 31 [eR (.ref 0), eI 9] h9) fun h19 => some (.inl (some (eI (Int32.ofNat N))), h19) else taI h9 46 (tI h9 64) fun v11 => taI h9 46 (tI h9 64) fun v12 => tsaI h9 46 (tI h9 64) (v12 + 1) fun h13 => bV (cT (dt + 30) 6 [eR (.ref 0)] h13) fun h14 => bV (cT (dt + 30) 48 [eR (.ref 0), eI v11] h14) fun h15 => tsaI h15 68 (Int32.ofNat N) (tI h15 73) fun h16 => bV (cT (dt + 30) 26 [eR (.ref 0), eI 58] h16) fun h17 => bV (cT (dt + 30) 50 [eR (.ref 0), eI (tI h15 73), eI (Int32.ofNat N)] h17) fun h18 => some (.inl (some (eI (Int32.ofNat N))), h18) := fun s' q2 => by
    dsimp only
    rw [F_isKey (dt + 28) _ q2, b_I, if_pos rfl, F_key (dt + 26) _ q2, b_V]
    exact ⟨_, _, rfl, rfl, rfl⟩
  refine B_next (dc + 10) (dt + 10) hz hB1 (fun s' q2 => ?_) (fun c2 s2 p2 f2 hB2 hW2 hp2 m1 m2 m3 m4 => ?_)
  · rw [F_e (dt + 26) q2, b_I, F_gets (dt + 28) _ _ q2, b_V]
    exact FHc s' q2
  obtain ⟨m5, m6, m7⟩ := m4 htok1
  have hlv2 : cnt s2 63 = lv := by rw [hB2.2.2.2.2.2.1.2.2.2.1]; exact hlv
  refine B_kid (dt + 28) hz hB2 (hsub1 _ _ _ _ _ _ _ hlv2 hB2.1) FHc (fun a1 y1 W1 vo3 c3 s3 p3 f3 hB3 hp3 hf3 m8 m9 hK3 hT3 hv3 hr3 ho3 => ?_)
  have hS3 := hB3.1.2.2.2.1.1
  have hw3 := hB3.1.1.1.1.1
  have hl3 := hB3.1.1.1.2.2.2.2.1.1
  have hfi3 := hB3.1.2.1
  rw [RP_800 hB3.1, c_keyE (dc + 15) 9 hw3 hl3, t_isKey (dt + 28), b_I]
  simp only [lx_key hB3.1.1, hfi3, true_and]
  by_cases hk : tI s3 8 = 2 ∧ tI s3 11 = 9
  · rw [if_pos hk]
    simp only [hk, and_self, decide_true, bi_t, e10, if_false, a_VV, b_V]
    have hI3 := hB3.1.2.2.2.1.2.2.2.2.2.2.2.1
    have h64 : tI s3 64 = Int32.ofNat (cnt s3 64) := hI3.1.1.1
    have hu60 : cnt s3 64 < 60 := by have := hI3.1.1.2; omega
    have hp3' : p3 = f3 + 5 := lw_kw (k := 9) hB3.1 hk.1 hk.2 (by decide)
    rw [h64, q_46 hu60, q_46 hu60, qs_46 hu60]
    refine B_next46 (dc + 8) (dt + 10) hz hB3 (fun s' q2 => ?_) (fun c4 s4 p4 f4 hB4 hW4 hA4 hp4 m10 m11 m12 m13 => ?_)
    · have q3 : tI (tsA s' 68 N (tI s' 73)) 6 ≠ 0 := q2
      rw [F_binds (dt + 26) _ q2, b_V, qs_68 hN9]
      simp only [F_sign (dt + 26) _ q3, F_around (dt + 28) _ _ q3, b_V]
      exact ⟨_, _, rfl, rfl, rfl⟩
    have hth4 := hW4.2.2.2.1
    have e64 : cnt s3 64 = cnt s4 64 := (th_cnt hth4 (by decide)).symm
    have hlv4 : cnt s4 63 = lv := by rw [hB4.2.2.2.2.2.1.2.2.2.1]; exact hlv
    rw [e64, ← hA4]
    refine B_bind (dc + 8) (dt + 9) (O1 := O + 1) (ff := f3) hn13 hz hB4 (RNt_fr hth4 (by decide) hB3.1.2.2.2.2.1) (by omega) (by rw [hlv4]; omega) (fun s' q2 => ?_) (fun c5 s5 p5 f5 vo5 o hB5 c50 hvo5 hus h1702 h51 hnm h73 hp5 hlt5 m14 m15 ho5 h12 h56 => ?_)
    · have q3 : tI (tsA s' 68 N (tI s' 73)) 6 ≠ 0 := q2
      rw [qs_68 hN9]
      simp only [F_sign (dt + 26) _ q3, F_around (dt + 28) _ _ q3, b_V]
      exact ⟨_, _, rfl, rfl, rfl⟩
    rw [RP_800 hB5.1, qs_68 hN9, h73]
    have hB6 := BS_w (v := Int32.ofNat (cnt s4 50)) (Or.inl rfl) hz hB5 (by decide) (by decide)
    have k68 : tA (tsA s5 68 N (Int32.ofNat (cnt s4 50))) 68 N = Int32.ofNat (cnt s4 50) := by rw [t_A_A, if_pos ⟨rfl, rfl⟩]
    have hth6 : TH [] [] [68] [] s5 (tsA s5 68 N (Int32.ofNat (cnt s4 50))) := TH_A (by simp) (TH_refl _ _ _ _ s5)
    have hcu := hB5.1.2.2.2.1.2.2.2.2.2.2.2.1.1
    have h645 : cnt s5 64 = cnt s 64 := hB5.2.2.2.2.2.1.2.2.2.2
    have hUV5 : UV r c5 s5 (cnt s 64) (cnt s4 50) o := ⟨hus, h1702, by rw [← h645]; exact hcu.2.1, h51, hnm⟩
    have hUV6 := UV_st hB5.1 (KC_refl r c5) (KT_of hth6 (by decide)) hUV5
    have h566 : cnt (tsA s5 68 N (Int32.ofNat (cnt s4 50))) 56 = cnt s5 56 := rfl
    generalize tsA s5 68 N (Int32.ofNat (cnt s4 50)) = s6 at hB6 k68 hUV6 h566 ⊢
    refine B_sign (dc + 8) (dt + 9) hz hB6 (lx_sgn hB6.1.1 (x := 58) (by decide)) (fun s' q2 => ?_) (fun c7 s7 p7 f7 hB7 hW7 hp7 hlt7 m16 m17 => ?_)
    · simp only [F_around (dt + 28) _ _ q2, b_V]
      exact ⟨_, _, rfl, rfl, rfl⟩
    have hth7 := hW7.2.2.2.1
    have hS7 := (WK_ST hB6.1 hW7).1
    have hUV7 := UV_st hB6.1 hS7.1 hS7.2.1 hUV6
    have hB7' := BS_debt hB7 (O' := O) (RNt_pay (O' := O) (f' := f7) hB6.1.2.2.2.2.1 (by omega) (by omega) hth7)
    have h567 : cnt s7 56 = cnt s 56 := hB7.2.2.2.2.2.1.2.1
    have h564 : cnt s4 56 = cnt s 56 := hB4.2.2.2.2.2.1.2.1
    have hS := hB7.1.2.2.2.1.1
    have hfi7 := hB7.1.2.1
    have ht56 : tI s7 56 = Int32.ofNat (cnt s7 56) := hB7.1.2.2.2.1.2.2.2.2.2.2.2.1.2.2.1.1.1
    obtain ⟨c8, e8, hB8, hUV8, nx8, sl8, o8⟩ := B_show (dc + 21) hz hB7' hc56 (by omega) hUV7 hvo5 (by omega) (by omega)
    have esh : tsI (tsA s7 57 (cnt s7 56) (Int32.ofNat (cnt s4 50))) 56 (tI (tsA s7 57 (cnt s7 56) (Int32.ofNat (cnt s4 50))) 56 + 1) = shT s7 (cnt s4 50) := rfl
    rw [r_cgR, if_pos hS.1, hS.2.2.2.1, e8, b_I, kX7_around, uX7_around, t_fine]
    simp only [hfi7, decide_true, bi_t, b_I, e10, if_false]
    rw [ht56, qs_57 (by omega), r_tpI, esh, a_VI]
    simp only [a_VV, r_tpI, b_V]
    have hz8 : (cLs c (r + 8)).length = cnt (shT s (cnt s4 50)) 35 := hz
    have hlv8 : cnt (shT s7 (cnt s4 50)) 63 = lv := by rw [hB8.2.2.2.2.2.1.2.2.2.1]; exact hlv
    refine B_kid (dt + 27) hz8 hB8 (hsub2 _ _ _ _ _ _ _ hlv8 hB8.1) (fun s' q2 => ⟨_, _, rfl, rfl, rfl⟩) (fun a2 y2 W2 vo9 c9 s9 p9 f9 hB9 hp9 hf9 m18 m19 hK9 hT9 hv9 hr9 ho9 => ?_)
    have hUV9 := UV_st hB8.1 hK9 hT9 hUV8
    obtain ⟨c10, e10', esub, hB10, hK10, hT10, nx10, sl10⟩ := B_hide (dc + 20) hz hB9 hc56 hUV9
    have hUV10 := UV_st hB9.1 hK10 hT10 hUV9
    rw [e10', esub, r_cnw]
    have hR10 := hB10.1
    have hn10 := hR10.2.2.1
    have ha10 : cCl c10 (cNx c10) = 0 := (hn10 _ (Nat.le_refl _)).1
    have hnl : ¬ live c10 (cNx c10) := fun q => q.1 ha10
    have ha0 : cCl c (cNx c10) = 0 := (hR.2.2.1 _ (by have := hB10.2.1.1.1; omega)).1
    have hnw : cmore (csCl c10 (cNx c10) 21) (csz 21) = nwC c10 21 := rfl
    have e11 := c_ty (dc + 19) (c := nwC c10 21) (a := cNx c10) (v1 := .ref a1) (v2 := .ref o) (v3 := .ref a2) (nw_cl c10 21) rfl rfl rfl
    have hcl11 : CLN (tyC (nwC c10 21) (cNx c10) (.ref a1) (.ref o) (.ref a2)) := cC_cln e11 (P_new 21 hR10).2.2.1
    have hch11 : CH [] [] [] [] c10 (tyC (nwC c10 21) (cNx c10) (.ref a1) (.ref o) (.ref a2)) := CH_R (Or.inr hnl) (CH_R (Or.inr hnl) (CH_R (Or.inr hnl) (nw_ch hn10 21)))
    have hnx11 : cNx (tyC (nwC c10 21) (cNx c10) (.ref a1) (.ref o) (.ref a2)) = cNx c10 + 1 := rfl
    have hsl11 : cSl (tyC (nwC c10 21) (cNx c10) (.ref a1) (.ref o) (.ref a2)) = cSl c10 + csz 21 := rfl
    have hcz : csz 21 ≤ 10 := by decide
    have hR11 := RP_fr hch11 (TH_refl [] [] [] [] _) (fun _ _ _ => ⟨rfl, rfl⟩) hcl11 (by omega) (by decide) (by decide) (by simp) hR10
    have hK11 : KC r c10 (tyC (nwC c10 21) (cNx c10) (.ref a1) (.ref o) (.ref a2)) := KC_R ha10 (KC_R ha10 (KC_R ha10 (KC_new hn10 hR10.2.2.2.1.1 21)))
    have hraw11 : ∀ b, raw c b → raw (tyC (nwC c10 21) (cNx c10) (.ref a1) (.ref o) (.ref a2)) b := raw_R ha0 (raw_R ha0 (raw_R ha0 (fun b q => nw_raw hn10 21 b (hB10.2.1.2.2.2.2.2.2 b q))))
    have hUV11 := UV_st hB10.1 hK11 (KT_refl _) hUV10
    have g1 : cCl (tyC (nwC c10 21) (cNx c10) (.ref a1) (.ref o) (.ref a2)) (cNx c10) = 21 := nw_cl c10 21
    have g2 : cR (tyC (nwC c10 21) (cNx c10) (.ref a1) (.ref o) (.ref a2)) 2102 (cNx c10) = .ref o := by simp [tyC, gC]
    have g3 : cR (tyC (nwC c10 21) (cNx c10) (.ref a1) (.ref o) (.ref a2)) 2100 (cNx c10) = .ref a1 := by simp [tyC, gC]
    have g4 : cR (tyC (nwC c10 21) (cNx c10) (.ref a1) (.ref o) (.ref a2)) 2101 (cNx c10) = .ref a2 := by simp [tyC, gC]
    have k6810 : tA (tsI s9 56 (Int32.ofNat (cnt s 56))) 68 N = Int32.ofNat (cnt s4 50) := by
      show tA s9 68 N = _
      rw [ho9 68 (by simp), o8 68 (by decide), th_A hth7 (by decide)]; exact k68
    rw [hnw, e11, b_V]
    obtain ⟨g, hg⟩ := BS_kids hB10 hK11
    obtain ⟨r1, r2, r3, r4, r5⟩ := BS_root hB10 (by decide)
    generalize tyC (nwC c10 21) (cNx c10) (.ref a1) (.ref o) (.ref a2) = c11 at *
    generalize tsI s9 56 (Int32.ofNat (cnt s 56)) = s10 at *
    have hlk := hB10.2.2.2.2.2.2.2.2.2.1
    obtain ⟨l1, l2, l3⟩ := hlk
    obtain ⟨w1, w2, w3⟩ := hg (a1, y1, H, D1, W1) (by simp)
    obtain ⟨x1, x2, x3⟩ := hg (a2, y2, H, D, W2) (by simp)
    have hch := L_chn (T := fun b y W => (cnt s 65 ≤ y ∧ y < cnt s10 65 ∧ y ≠ N) ∧ TR g (fun q => cnt s 65 ≤ q ∧ q < cnt s10 65 ∧ q ≠ N) r c11 s10 (cnt s 64) H D b y W) [(a2, y2, H, D, W2)] _ l3 (fun e he => by
      rw [List.mem_singleton] at he
      rw [he]
      exact ⟨x1, x3⟩)
    right
    refine ⟨cNx c10, N, c11, s10, p9, f9, rfl, rfl, BS_fin (g := g + 1) hz (by omega) hB10 ?_ hK11 (by omega) (by omega) hraw11 ?_⟩
    · rw [← Nat.add_assoc]
      exact P_close0 hR11 (by rw [r5]; decide)
    · refine Or.inr ⟨r1, r2, r3, r4, hH, by omega, ?_⟩
      have w3' := TR_wkH _ _ _ _ _ _ _ _ _ _ (Nat.le_refl H) (show D1 ≤ D - 1 by omega) (Nat.le_refl _) w3
      exact Or.inr (Or.inr (Or.inr (Or.inr (Or.inr (Or.inr (Or.inr (Or.inr (Or.inr (Or.inr (Or.inr (Or.inl ⟨g1, r5, by omega, by omega, o, cnt s4 50, a1, a2, y1, W1, _, g2, hUV11.2.1, k6810, hUV11.1, g3, g4, l1, l2, w1, w3', hch, by
        have : sW ([] ++ [(a1, y1, H, D1, W1)] ++ [(a2, y2, H, D, W2)]) = W1 + sW [(a2, y2, H, D, W2)] := rfl
        rw [this]; omega⟩)))))))))))
  · rw [if_neg hk]
    left
    simp only [hk, decide_false, bi_f, if_true, b_Vx]
    obtain ⟨_, y2, y3, _, _⟩ := lx_mis hB3.1.1 hfi3 1 (by decide)
    refine j_mis (y := Int32.ofNat N) (s' := fH s3 1 (if tI s3 8 = 0 then tI s3 4 else tI s3 9)) hB3.1 1 (by decide) hB3.2.1.2.2.2.1 hB3.2.1.2.2.2.2.1 (s1 := fH s3 1 (if tI s3 8 = 0 then tI s3 4 else tI s3 9)) ?_ rfl rfl ⟨y2, y3⟩
    rw [t_keyE (dt + 26), if_neg (fun q => hk q.2), if_pos hfi3, b_V]
end
