set_option maxRecDepth 100000
set_option maxHeartbeats 4000000
/-! D60: what is under a context -/
theorem fH_I {s : tS} {k pl : Int32} {x : Nat} (hx : x ∉ [6, 7, 8]) : tI (fH s k pl) x = tI s x := by
  have h6 : ¬ x = 6 := fun q => hx (by simp [q])
  have h7 : ¬ x = 7 := fun q => hx (by simp [q])
  have h8 : ¬ x = 8 := fun q => hx (by simp [q])
  unfold fH
  split <;> simp [gT, h6, h7, h8]
section
variable {χ : Nat → Int32} {n t r : Nat} {Oa Ou : Nat → Prop} {O : Nat}
variable {p0 : Nat} {Op : Nat → Prop} {E p f : Nat} {c : cS} {s : tS} {vo : Nat → Nat} {vq : Nat → Nat} {Opq Oaq Ouq : Nat → Prop} {Eq' Oq' : Nat} {sq : tS} {Hq Dq : Nat}
/-- no room for a unit -/
theorem J_full (dt : Nat) {so ki : Int32} {kN : Int32 → Int32 → tS → tR} (hR : RP χ n t r p f vo Op Oa Ou E O c s) (h60 : ¬ cnt s 35 < 60) (hF : ∀ x, FH (kN 0 x)) :
    pB n f c (some (.inr (.ref (cNx c)), wH c 4 (cI c 1005 (r + 16)))) (bI (cT (dt + 20) 46 [eR (.ref 0)] s) fun v h => if v = 0 then some (.inl (some (eI 0)), h) else taI h 37 (tI h 64) fun v3 => bI (cT (dt + 20) 37 [eR (.ref 0), eI so, eI v3, eI (tI h 64)] h) fun v5 h4 => bI (cT (dt + 20) 47 [eR (.ref 0), eI ki, eI v5, eI 0] h4) fun v7 h6 => bV (cT (dt + 20) 6 [eR (.ref 0)] h6) (kN v5 v7)) := by
  obtain ⟨_, _, _, z4, z5⟩ := lx_mis hR.1 hR.2.1 4 (by decide)
  have hfi := hR.2.1
  have hI := hR.2.2.2.1.2.2.2.2.2.2.2.1
  have hU := hR.2.2.2.1.2.2.2.2.2.1
  have h35 : tI s 35 = (60 : Int32) := by
    have := hU.1.2
    rw [hU.1.1, show cnt s 35 = 60 by omega]; rfl
  have hq := hR.2.2.2.1.2.1
  rw [t_counts (dt + 17), if_pos hfi]
  by_cases q : tI s 62 = 400
  · rw [if_pos q, b_I, if_pos rfl]
    exact j_mis hR 4 (by decide) (Nat.le_refl _) (Nat.le_refl _) (s1 := fH s 4 (tI s 9)) rfl (by rw [t_I_I, if_neg (by decide)]) (by rw [t_I_I, if_neg (by decide)]) ⟨z4, z5⟩
  · rw [if_neg q, b_I, if_neg (by decide)]
    have e64 : tI (tsI s 62 (tI s 62 + 1)) 64 = Int32.ofNat (cnt s 64) := hI.1.1.1
    have hlt := hI.1.1.2
    have a1 : tI (tsI s 62 (tI s 62 + 1)) 6 = 0 := hfi
    have a2 : tI (tsI s 62 (tI s 62 + 1)) 35 = 60 := h35
    have a3 : tI (tsI s 62 (tI s 62 + 1)) 9 = tI s 9 := rfl
    rw [e64, q_37 (by omega), t_noUnit (dt + 17) _ _ _ a1 a2, b_I, a3]
    have b65 : tI (fH (tsI s 62 (tI s 62 + 1)) 4 (tI s 9)) 65 = tI s 65 := (fH_I (by decide)).trans rfl
    have c65 : cnt (fH (tsI s 62 (tI s 62 + 1)) 4 (tI s 9)) 65 = cnt s 65 := by unfold cnt; rw [b65]
    have h62 := hq.1.1.2
    have h65 := hq.2.2.2.2.2
    rw [t_node (dt + 19) _ _ _ (by rw [b65, c65]; exact hq.2.2.2.2.1.1) (by rw [c65]; omega), b_I]
    have hth := nd_th (fH (tsI s 62 (tI s 62 + 1)) 4 (tI s 9)) ki 0 0
    have n6 : tI (ndT (fH (tsI s 62 (tI s 62 + 1)) 4 (tI s 9)) ki 0 0) 6 = 4 := by rw [th_I hth (by decide)]; exact (fH_6 a1).1
    have n7 : tI (ndT (fH (tsI s 62 (tI s 62 + 1)) 4 (tI s 9)) ki 0 0) 7 = tI s 9 := by rw [th_I hth (by decide)]; exact (fH_6 a1).2
    rw [F_next (dt + 18) (by rw [n6]; decide), b_V]
    obtain ⟨y, s'', g1, g2, g3⟩ := hF (Int32.ofNat (cnt (fH (tsI s 62 (tI s 62 + 1)) 4 (tI s 9)) 65)) (ndT (fH (tsI s 62 (tI s 62 + 1)) 4 (tI s 9)) ki 0 0) (by rw [n6]; decide)
    exact j_mis hR 4 (by decide) (Nat.le_refl _) (Nat.le_refl _) (s1 := fH s 4 (tI s 9)) g1 (by rw [g2, n6]; exact z4.symm) (by rw [g3, n7]; exact ((fH_6 hfi).2).symm) ⟨z4, z5⟩
theorem S_under (dc dt : Nat) {H D lv H2 D2 : Nat} (hH : 1 ≤ H2 → 14 ≤ H) (hH2 : H2 ≤ 149) (hD2 : D2 ≤ 24) (hsub1 : ∀ Ou', SP χ n t r Oa Ou' O lv H D (dc + 31) 829 (dt + 31) 57) (hsub2 : ∀ Ou', SP χ n t r Oa Ou' O lv H2 D2 (dc + 30) 829 (dt + 30) 57) (vo : Nat → Nat) (Op : Nat → Prop) (E p f : Nat) (c : cS) (s : tS) (hlv : cnt s 63 = lv) (hR : RP χ n t r p f vo Op Oa Ou E O c s) (h8 : tI s 8 ≠ 0) :
    PX χ n t r f p vo Op Oa Ou E O c s H D (cC (dc + 32) 830 [eR (.ref r)] c) (cT (dt + 32) 60 [eR (.ref 0)] s) := by
  have hS := hR.2.2.2.1.1
  have hw := hR.1.1.1.1
  have hl := hR.1.1.2.2.2.2.1.1
  have hU := hR.2.2.2.1.2.2.2.2.2.1
  have hlen := hU.2.1.1
  have h60 := hU.1.2
  have hz := RP_len hR
  rw [kX8_under, r_cck, if_pos hS.1, uX8_under, r_cgR, if_pos hS.1, hS.2.2.1, r_cgR, if_pos hS.2.2.2.2.1, hS.2.2.2.2.2.1.2.2.2.1, c_len (dc + 22) (RSt_uL hS) rfl, b_I, hlen, kX7_under, uX7_under]
  simp only [show (60 : Int32) = Int32.ofNat 60 from rfl, z_lt (show cnt s 35 < 2147483648 by omega) (show 60 < 2147483648 by decide)]
  have FHa : ∀ v x : Int32, FH fun h8 => bI (cT (dt + 31) 57 [eR (.ref 0)] h8) fun v10 h9 => bV (cT (dt + 31) 49 [eR (.ref 0), eI x, eI v10] h9) fun h11 => bV (cT (dt + 31) 26 [eR (.ref 0), eI 58] h11) fun h12 => bV (cT (dt + 31) 59 [eR (.ref 0), eI v] h12) fun h13 => some (.inl (some (eI x)), h13) := fun v x s' q2 => by
    simp only [F_inner (dt + 27) q2, F_gets (dt + 29) _ _ q2, F_sign (dt + 27) _ q2, F_bodyOf (dt + 29) _ q2, b_V, b_I]
    exact ⟨_, _, rfl, rfl, rfl⟩
  by_cases hlt : cnt s 35 < 60
  · have em : cC (dc + 31) 803 [eR (.ref r), eI 1, eI 4] c = some (.inl none, c) := (c_must (dc + 17) true 4 hS.1 hS.2.1 hw hl).trans (if_pos rfl)
    rw [if_pos hlt, uX8_under_10, em, b_V]
    refine J_part (dc + 16) (dt + 28) hR (fun hR1 hST1 h62 => ?_)
    rw [RP_800 hR1]
    refine B_open (dc + 11) (dt + 11) (so := 4) (K := 10) (by decide) (by decide) rfl rfl hR hR1 hST1 h62 hlt h8 (FHa _ _) (fun c2 s2 p2 f2 lu hB2 hp2 hlt2 m1 m2 k68 hUN2 h442 => ?_)
    have hN9 : cnt s 65 < 900 := by have := hB2.2.2.2.2.1; have := hB2.1.2.2.2.1.2.1.2.2.2.2.1.2; omega
    generalize hNd : cnt s 65 = N at hB2 hN9 k68 ⊢
    have hlv2 : cnt s2 63 = lv := by rw [hB2.2.2.2.2.2.1.2.2.2.1]; exact hlv
    refine B_kidS (dt + 29) hz hB2 (hsub1 _ _ _ _ _ _ _ _ hlv2 hB2.1) (fun s' q2 => ?_) (fun a1 y1 W1 vo3 c3 s3 p3 f3 hB3 hp3 hf3 m3 m4 hK3 hT3 hv3 hr3 ho3 hks3 => ?_)
    · simp only [F_sign (dt + 27) _ q2, F_bodyOf (dt + 29) _ q2, b_V]
      exact ⟨_, _, rfl, rfl, rfl⟩
    have hUN3 := UN_st hB2.1 hK3 hT3 hUN2
    rw [RP_800 hB3.1]
    refine B_sign (dc + 9) (dt + 10) hz hB3 (lx_sgn hB3.1.1 (x := 58) (by decide)) (fun s' q2 => ?_) (fun c4 s4 p4 f4 hB4 hW4 hp4 hlt4 m5 m6 => ?_)
    · simp only [F_bodyOf (dt + 29) _ q2, b_V]
      exact ⟨_, _, rfl, rfl, rfl⟩
    have hS4 := (WK_ST hB3.1 hW4).1
    have hUN4 := UN_st hB3.1 hS4.1 hS4.2.1 hUN3
    have hI0 := hR.2.2.2.1.2.2.2.2.2.2.2.1
    have hI2 := hB2.1.2.2.2.1.2.2.2.2.2.2.2.1
    have hU2 := hB2.1.2.2.2.1.2.2.2.2.2.1
    have h64k := hB2.2.2.2.2.2.1.2.2.2.2
    have h44 : ca s4 44 (cnt s 35) = 0 := by
      rw [th_ca hW4.2.2.2.1 (by decide), (hks3.2.2 _ hUN2.1 (fun q => by
        have := anc_le hU2 _ _ _ hI2.1.2.1 q
        have := hI0.1.2.1
        omega)).1]
      exact h442
    refine B_body dc dt hR hB4 (hsub2 _) hlv hUN4 h44 (by decide) (fun q => absurd q (by decide)) rfl hH2 hD2 (fun s' q2 => ⟨_, _, rfl, rfl, rfl⟩) (fun a2 c5 s5 p5 f5 vo5 hB5 hp5 hf5 m7 m8 hK5 hT5 ho5 hUN5 hH1 => ?_)
    have hH := hH hH1
    rw [r_cnw]
    have hR5 := hB5.1
    have hn5 := hR5.2.2.1
    have ha5 : cCl c5 (cNx c5) = 0 := (hn5 _ (Nat.le_refl _)).1
    have hnw : cmore (csCl c5 (cNx c5) 24) (csz 24) = nwC c5 24 := rfl
    have e11 := c_iu (dc + 20) (c := nwC c5 24) (a := cNx c5) (v1 := .ref lu) (v2 := .ref a1) (nw_cl c5 24) rfl rfl
    have hfr : FR c5 (iuC (nwC c5 24) (cNx c5) (.ref lu) (.ref a1)) := FR_R ha5 (FR_R ha5 (FR_nw ha5 (FR_refl c5)))
    have hcl6 : CLN (iuC (nwC c5 24) (cNx c5) (.ref lu) (.ref a1)) := cC_cln e11 (P_new 24 hR5).2.2.1
    have hnx6 : cNx (iuC (nwC c5 24) (cNx c5) (.ref lu) (.ref a1)) = cNx c5 + 1 := rfl
    have hsl6 : cSl (iuC (nwC c5 24) (cNx c5) (.ref lu) (.ref a1)) = cSl c5 + csz 24 := rfl
    have hcz : csz 24 ≤ 10 := by decide
    have hR6 := RP_FR hfr (NF_nw (k := 24) (by decide) (NF_refl c5)) hcl6 hR5
    have hK6 := FR_kc hfr (NF_nw (k := 24) (by decide) (NF_refl c5)) hR5.2.2.2.1.1
    have g1 : cCl (iuC (nwC c5 24) (cNx c5) (.ref lu) (.ref a1)) (cNx c5) = 24 := nw_cl c5 24
    have g2 : cR (iuC (nwC c5 24) (cNx c5) (.ref lu) (.ref a1)) 2400 (cNx c5) = .ref lu := by simp [iuC, gC]
    have g3 : cR (iuC (nwC c5 24) (cNx c5) (.ref lu) (.ref a1)) 2401 (cNx c5) = .ref a1 := by simp [iuC, gC]
    have hUN6 := UN_st hR5 hK6 (KT_refl s5) hUN5
    have k685 : tA s5 68 N = Int32.ofNat (cnt s 35) := by
      rw [ho5 68 (by simp), th_A hW4.2.2.2.1 (by decide), ho3 68 (by simp)]; exact k68
    rw [hnw, e11, b_V]
    obtain ⟨g, hg⟩ := BS_kids hB5 hK6
    obtain ⟨r1, r2, r3, r4, r5⟩ := BS_root hB5 (by decide)
    have hraw6 : ∀ b, raw c b → raw (iuC (nwC c5 24) (cNx c5) (.ref lu) (.ref a1)) b := fun b q => FR_raw hfr (NF_nw (k := 24) (by decide) (NF_refl c5)) b (hB5.2.1.2.2.2.2.2.2 b q)
    generalize iuC (nwC c5 24) (cNx c5) (.ref lu) (.ref a1) = c6 at *
    obtain ⟨u1, u2, u3, u4, u5, u6⟩ := hUN6
    have h605 : cnt s5 35 ≤ 60 := hR5.2.2.2.1.2.2.2.2.2.1.1.2
    have c68 := ca_of k685 (by omega)
    have hch := L_chn (T := fun b y W => (cnt s 65 ≤ y ∧ y < cnt s5 65 ∧ y ≠ N) ∧ TR g (fun q => cnt s 65 ≤ q ∧ q < cnt s5 65 ∧ q ≠ N) r c6 s5 (cnt s 64) H D b y W) _ _ hB5.2.2.2.2.2.2.2.2.2.1 (fun e he => by
      obtain ⟨q1, q2, q3⟩ := hg e he
      have hHD : e.2.2.1 = H ∧ e.2.2.2.1 = D := by
        simp only [List.nil_append, List.mem_cons, List.not_mem_nil, or_false] at he
        rcases he with rfl
        exact ⟨rfl, rfl⟩
      rw [hHD.1, hHD.2] at q3
      exact ⟨q1, q3⟩)
    right
    refine ⟨cNx c5, N, c6, s5, p5, f5, rfl, rfl, BS_fin (g := g + 1) hz (by omega) hB5 ?_ hK6 (by omega) (by omega) hraw6 ?_⟩
    · rw [← Nat.add_assoc]
      exact P_close10 hR6 r5 k685 u1 (by rw [r3]; exact u2) (fun q => by rw [u4] at q; exact absurd q (by decide))
    · refine Or.inr ⟨r1, r2, r3, r4, by omega, by omega, ?_⟩
      refine Or.inr (Or.inr (Or.inr (Or.inr (Or.inr (Or.inr (Or.inr (Or.inr (Or.inl ⟨g1, hH, by omega, aok_of k685 (by omega) (by omega), by rw [c68]; exact u1, by rw [c68, u5]; exact g2, by rw [c68, ca_of u2 (by omega)], by rw [c68, u2, ne_eq, ofNat_ne_m1 (by omega)]; exact id, ?_⟩))))))))
      exact Or.inr (Or.inr ⟨r5, by rw [c68]; exact u4, a1, _, g3, hch, by omega⟩)
  · left
    have em : cC (dc + 31) 803 [eR (.ref r), eI 0, eI 4] c = some (.inr (.ref (cNx c)), wH c 4 (cI c 1005 (r + 16))) := (c_must (dc + 17) false 4 hS.1 hS.2.1 hw hl).trans (if_neg (by decide))
    rw [if_neg hlt, uX8_under_10, em, b_Vx]
    exact J_full (dt + 11) hR hlt (fun x => FHa 0 x)
end
