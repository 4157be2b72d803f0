set_option maxRecDepth 100000
set_option maxHeartbeats 4000000
/-! D105: a fun -/
section
variable {χ : Nat → Int32} {n t r : Nat} {Oa Ou : Nat → Prop} {O : Nat}
theorem S_fun (dc dt : Nat) {H D lv H2 D2 : Nat} (hn13 : n ≤ 1280) (hH : 1 ≤ H2 → 14 ≤ H) (hH2 : H2 ≤ 149) (hD2 : D2 ≤ 24) (hsub : ∀ Ou', SP χ n t r Oa Ou' O lv H2 D2 (dc + 30) 813 (dt + 30) 40) (vo : Nat → Nat) (Op : Nat → Prop) (E p f : Nat) (c : cS) (s : tS) (hlv : cnt s 63 = lv) (hR : RP χ n t r p f vo Op Oa Ou E O c s) (h8 : tI s 8 ≠ 0) :
    PX χ n t r f p vo Op Oa Ou E O c s H D (cC (dc + 32) 836 [eR (.ref r)] c) (cT (dt + 32) 70 [eR (.ref 0)] s) := by
  have hS := hR.2.2.2.1.1
  have hw := hR.1.1.1.1
  have hl := hR.1.1.2.2.2.2.1.1
  have hU := hR.2.2.2.1.2.2.2.2.2.1
  have hV := hR.2.2.2.1.2.2.2.2.2.2.1
  have hI := hR.2.2.2.1.2.2.2.2.2.2.2.1
  have hlen := hU.2.1.1
  have h60 := hU.1.2
  have hz := RP_len hR
  have q60 : (Int32.ofNat (cnt s 35) < (60 : Int32)) = (cnt s 35 < 60) := z_lt (show cnt s 35 < 2147483648 by omega) (show 60 < 2147483648 by decide)
  rw [kX8_fun, r_cck, if_pos hS.1, uX8_fun, r_cgR, if_pos hS.1, hS.2.2.1, r_cgR, if_pos hS.2.2.2.2.1, hS.2.2.2.2.2.1.2.2.2.1, c_len (dc + 22) (RSt_uL hS) rfl, b_I, hlen, kX7_fun, uX7_fun]
  have FHb : ∀ (u x y : Int32), FH fun h9 => bV (cT (dt + 31) 26 [eR (.ref 0), eI 41] h9) fun h10 => bI (cT (dt + 31) 7 [eR (.ref 0)] h10) fun v12 h11 => if v12 = 0 then fX7_fun_43 (cT (dt + 31)) u x y h11 else bI (cT (dt + 31) 27 [eR (.ref 0), eI 123] h11) fun v14 h13 => if v14 = 0 then bV (cT (dt + 31) 24 [eR (.ref 0)] h13) fun h15 => fX7_fun_43 (cT (dt + 31)) u x y h15 else fX7_fun_43 (cT (dt + 31)) u x y h13 := fun u x y s' q2 => by
    simp only [F_sign (dt + 27) _ q2, F_fine (dt + 30) q2, b_V, b_I, if_true, uX7_fun_43]
    exact ⟨_, _, rfl, rfl, rfl⟩
  have FHa : ∀ v x : Int32, FH fun h8 => bV (cT (dt + 31) 39 [eR (.ref 0), eI v, eI 0] h8) fun h9 => bV (cT (dt + 31) 26 [eR (.ref 0), eI 41] h9) fun h10 => bI (cT (dt + 31) 7 [eR (.ref 0)] h10) fun v12 h11 => if v12 = 0 then fX7_fun_43 (cT (dt + 31)) v x (tI h8 56) h11 else bI (cT (dt + 31) 27 [eR (.ref 0), eI 123] h11) fun v14 h13 => if v14 = 0 then bV (cT (dt + 31) 24 [eR (.ref 0)] h13) fun h15 => fX7_fun_43 (cT (dt + 31)) v x (tI h8 56) h15 else fX7_fun_43 (cT (dt + 31)) v x (tI h8 56) h13 := fun v x s' q2 => by
    show ∃ q s'', (bV (cT (dt + 31) 39 [eR (.ref 0), eI v, eI 0] s') _) = _ ∧ _
    rw [F_params (dt + 26) _ _ q2, b_V]
    exact FHb v x (tI s' 56) s' q2
  by_cases hlt : cnt s 35 < 60
  · have em : cC (dc + 31) 803 [eR (.ref r), eI 1, eI 4] c = some (.inl none, c) := (c_must (dc + 17) true 4 hS.1 hS.2.1 hw hl).trans (if_pos rfl)
    rw [if_pos (Eq.mpr q60 hlt), uX8_fun_10, em, b_V]
    refine J_part (dc + 16) (dt + 28) hR (fun hR1 hST1 h62 => ?_)
    rw [RP_800 hR1]
    refine B_openX (dc + 11) (dt + 11) (so := 1) (K := 9) (by decide) (by decide) rfl rfl hR hR1 hST1 h62 hlt h8 (FHa _ _) (fun c2 s2 p2 f2 lu hB2 hp2 hlt2 m1 m2 k68 hUN2 h442 hX => ?_)
    obtain ⟨x50, x35, x46, x46u, x39u, x51, x56⟩ := hX
    generalize hNd : cnt s 65 = N at hB2 k68 ⊢
    have hfp2 : f2 ≤ p2 := hB2.1.1.2.1
    rw [RP_800 hB2.1, kX7_parameters, uX7_parameters, a_VV]
    refine B_sign (dc + 9) (dt + 9) hz hB2 (lx_sgn hB2.1.1 (x := 40) (by decide)) (fun s' q2 => ?_) (fun c3 s3 p3 f3 hB3 hW3 hp3 hlt3 m3 m4 => ?_)
    · show ∃ q s'', (bV (bI (cT (dt + 30) 7 [eR (.ref 0)] s') _) _) = _ ∧ _
      rw [F_fine (dt + 29) q2, b_I, if_pos rfl, b_V]
      exact FHb _ _ _ s' q2
    have hR3 := hB3.1
    have hth3 := hW3.2.2.2.1
    have oA3 : ∀ z y, tA s3 z y = tA s2 z y := fun z y => th_A hth3 (by simp) y
    have oc3 : ∀ z y, ca s3 z y = ca s2 z y := fun z y => by unfold ca; rw [oA3]
    have hS3 := (WK_ST hB2.1 hW3).1
    have hUN3 := UN_st hB2.1 hS3.1 hS3.2.1 hUN2
    have h443 : ca s3 44 (cnt s 35) = 0 := (oc3 44 _).trans h442
    obtain ⟨hu3, h40, hwu, h36, hlu, h1603⟩ := id hUN3
    have h64 : cnt s3 64 = cnt s 64 := hB3.2.2.2.2.2.1.2.2.2.2
    obtain ⟨hRe, hKCe, hKTe, c64e⟩ := P_enter hR3 h64 hu3 h40 hwu (UN_37 hR3 hUN3) (Or.inr rfl) h443
    rw [hlu] at hRe hKCe
    have e36n : ¬ tA s3 36 (cnt s 35) = 0 := by rw [h36]; decide
    have c503 : cnt s3 50 = cnt s 50 := (th_cnt hth3 (by decide)).trans x50
    have c353 : cnt s3 35 = cnt s 35 + 1 := (th_cnt hth3 (by decide)).trans x35
    have c563 : cnt s3 56 = cnt s 56 := (th_cnt hth3 (by decide)).trans x56
    have h633 : cnt s3 63 = cnt s 63 := hB3.2.2.2.2.2.1.2.2.2.1
    obtain ⟨Lt, l1, l2, l3, l4⟩ := hR.2.2.2.2.1
    have hPI : PI χ n t r (cnt s 35) lu (cnt s3 56) 0 (fun y => Op y ∨ y = N) Oa (fun k => Ou k ∨ k = cnt s 35) (E + 60) O vo p3 f3 c3 s3 (tsI s3 64 (Int32.ofNat (cnt s 35))) := by
      refine ⟨hRe, VQ_64 _ _, by rw [t_I_I, if_pos rfl], hu3, hlu, (oc3 46 _).trans x46u, fun v hv q => ?_, (by show (0 : Int32) = Int32.ofNat (if tA s3 36 (cnt s 35) = 0 then 1 else 0); rw [if_neg e36n]; rfl), fun i h1 h2 => absurd h2 (Nat.not_lt.2 h1), Nat.le_refl _, Lt, fun k hk => ?_, ?_, by omega, by show O ≤ 4 * cnt s3 63; rw [h633]; exact l4⟩
      · have hv' : v < cnt s 50 := by rw [← c503]; exact hv
        have q' : ca s3 51 v = cnt s 35 := q
        rw [oc3] at q'
        have e : ca s2 51 v = ca s 51 v := ca_eq (x51 v)
        rw [e] at q'
        have := (hV.2.1 v hv').2.2.1
        omega
      · show ca s3 46 k ≤ Lt
        have hk' : k < cnt s 35 + 1 := by rw [← c353]; exact hk
        rw [oc3]
        by_cases q : k = cnt s 35
        · rw [q, x46u]; omega
        · rw [ca_eq (x46 k q)]; exact l1 k (by omega)
      · show cnt s3 50 + 3 ≤ 4 * cnt s3 35 + Lt + ca s3 39 (cnt s 35)
        rw [c503, c353, oc3, x39u]; omega
    have h393 : ca s3 39 (cnt s 35) = 0 := (oc3 39 _).trans x39u
    have hvL3 := RSt_vL hR3.2.2.2.1.1
    have hvl3 := hR3.2.2.2.1.2.2.2.2.2.2.2.1.2.2.1.2.1
    have e562 : tI s2 56 = Int32.ofNat (cnt s3 56) := by
      rw [← th_I hth3 (show 56 ∉ [8, 9, 10, 11, 14, 15] by decide)]
      exact hR3.2.2.2.1.2.2.2.2.2.2.2.1.2.2.1.1.1
    have h8033 := hR3.2.2.2.1.2.2.2.2.2.2.2.1.1.2.2
    rw [h64] at h8033
    rw [r_cgR, if_pos hR3.2.2.2.1.1.1, hR3.2.2.2.1.1.2.2.2.1, c_len (dc + 22) hvL3 rfl, b_I, hvl3, e562]
    rcases J_params (c0 := c) (f0 := f) dc dt hn13 hPI rfl h393 (by omega) (by omega) with hb | ⟨c4, w4, s4, p4, f4, vo4, e5, e6, hPI4, hPQ4, hp4⟩
    · left
      obtain ⟨a9, c9, s9, k9, pl9, v1, v2, v3, v4, v5, v6, v7, v8⟩ := hb
      obtain ⟨q, s'', g1, g2, g3⟩ := FHb (Int32.ofNat (cnt s 35)) (Int32.ofNat N) (Int32.ofNat (cnt s3 56)) s9 (by rw [v4]; exact v6)
      refine ⟨a9, c9, q, s'', k9, pl9, ?_, ?_, v3, by rw [g2]; exact v4, by rw [g3]; exact v5, v6, v7, v8⟩
      · rw [v1]; rfl
      · rw [v2, b_V]; exact g1
    have hr4 := (PI_fc hPI4).2.2.1
    have h8004 := (PI_fc hPI4).2.2.2.1
    have hx4 := hPQ4.2.2.2.2.2.2.2.2.1
    have hx4' := hPQ4.2.2.2.2.2.2.2.2.2.1
    have hf4 := hPQ4.2.2.2.2.2.2.2.2.2.2.1
    rw [e5, e6, b_V, b_V, r_cgR, if_pos hr4, h8004]
    obtain ⟨hLX4, hfi4, _, _, _⟩ := PI_q hPI4
    obtain ⟨lx1, lx2⟩ := VQ_lex hPI4.2.1
    rcases P_signV (dc + 9) (dt + 10) 41 hPI4.1 hfi4 lx1 lx2 (lx_sgn (PI_fc hPI4).1 (x := 41) (by decide)) with hb | ⟨hq5, c5, w5, p5, f5, e7, e8, hz5, hW5, h8035⟩
    · left
      refine j_lx hb (f1 := f4) (by omega) (by omega) (fun s' q2 => ?_)
      simp only [F_fine (dt + 30) q2, b_I, if_true, uX7_fun_43]
      exact ⟨_, _, rfl, rfl, rfl⟩
    obtain ⟨hPI5, hPQ5, hsl5⟩ := PI_st hPI4 hz5 hW5 h8035
    obtain ⟨m5, m6, m7⟩ := hsl5 (by rw [hq5.1]; decide)
    generalize ov w5 s4 = s5 at *
    obtain ⟨hLXs5, hfis5, hr5, h8005, h8055, hvL5, hw5, hl5, _, _, _, hu60, _, _, _, _, hlenU5⟩ := PI_fc hPI5
    obtain ⟨hLX5, hfi5, e58, e511, _⟩ := PI_q hPI5
    have hlen34 : (cLs c3 (r + 8)).length ≤ (cLs c4 (r + 8)).length := by
      have e1 : (cLs c3 (r + 8)).length = cnt s3 35 := RP_len hR3
      have e2 : (cLs c4 (r + 8)).length = cnt s4 35 := (PI_fc hPI4).2.2.2.2.2.2.2.2.2.2.2.2.2.2.2.2
      rw [e1, e2]; exact hPQ4.2.1.1 35 (by simp)
    have hPQ := PQ_trans hlen34 hPQ4 hPQ5
    rw [e7, e8, b_V, b_V, r_cgR, if_pos hr5, h8005, t_fine (dt + 30), b_I, hfi5, decide_eq_true rfl, bi_t, if_neg n10, t_isSign (dt + 29), b_I]
    obtain ⟨_, y2, y3, _, _⟩ := lx_mis hLX5 hfi5 1 (by decide)
    have hp5f : f5 ≤ p5 := hLX5.2.1
    by_cases hq : tI w5 8 = 5 ∧ tI w5 11 = 123
    · have hq' : tI w5 6 = 0 ∧ tI w5 8 = 5 ∧ tI w5 11 = 123 := ⟨hfi5, hq⟩
      have hq5s : tI s5 8 = 5 ∧ tI s5 11 = 123 := ⟨e58.symm.trans hq.1, e511.symm.trans hq.2⟩
      have hws : tsI w5 64 (Int32.ofNat (cnt s 35)) = s5 := VQ_eq hPI5.2.1 hPI5.2.2.1 (fun j => (th_A hPQ.2.2.1 (by decide) j).trans (th_A hPQ.2.2.2.2.2.2.2.2.2.2.2.2.2 (by decide) j).symm) (fun j => (th_A hPQ.2.2.1 (by decide) j).trans (th_A hPQ.2.2.2.2.2.2.2.2.2.2.2.2.2 (by decide) j).symm)
      rw [decide_eq_true hq', bi_t, if_neg n10, uX7_fun_43, t_fine (dt + 30), b_I, hfi5, decide_eq_true rfl, bi_t, if_neg n10, r_tpI, hws, kX7_row, row_u, a_IV]
      have FHr : ∀ y : Int32, FH fun h => bI (rowR (dt + 30) h) fun v5 h4 => tsaI h4 41 (Int32.ofNat (cnt s 35)) v5 fun h6 => tpI h6 64 (tI w5 64) fun h7 => tpI h7 56 y fun h8 => some (.inl (some (eI (Int32.ofNat N))), h8) := fun y s' q2 => by
        show ∃ q s'', bI (rowR (dt + 30) s') _ = _ ∧ _
        unfold rowR
        rw [F_e (dt + 26) q2, b_I, F_isSign (dt + 28) _ q2, b_I, if_pos rfl, F_sign (dt + 26) _ q2, b_V, b_I, qs_41 hu60, r_tpI, r_tpI]
        exact ⟨_, _, rfl, rfl, rfl⟩
      rcases P_signV (dc + 9) (dt + 9) 123 hPI5.1 (q := s5) hfis5 (fun _ _ => rfl) (fun _ => rfl) (lx_sgn hLXs5 (x := 123) (by decide)) with hb | ⟨_, c6, s6, p6, f6, e9, e10', hz6, hW6, h8036⟩
      · left
        exact j_lx hb (f1 := f5) (by omega) (by omega) (FHr _)
      rw [hz6] at hW6
      have hR6 := hW6.1
      obtain ⟨hS6, hS6'⟩ := WK_ST hPI5.1 hW6
      obtain ⟨m8, m9, m10⟩ := hS6' (by rw [hq5s.1]; decide)
      have hr6 : cCl c6 r = 8 := hR6.2.2.2.1.1.1
      have hs64 : tI w5 64 = Int32.ofNat (cnt s 64) := by
        rw [th_I hPQ.2.2.2.2.2.2.2.2.2.2.2.2.2 (show 64 ∉ [8, 9, 10, 11, 14, 15, 50, 56] by decide), ← h64]
        exact hR3.2.2.2.1.2.2.2.2.2.2.2.1.1.1.1
      have h803f : cR c6 803 r = .ref (lid c3 (r + 8) (cnt s 64)) := by
        rw [h8036, hPQ.2.2.2.2.2.2.2.2.2.2.2.1]; exact h8033
      rw [e9, e10', b_V, b_V, r_cgR, if_pos hr6, h803f, r_cpR, if_pos ⟨hr6, rfl⟩, kX8_row, r_cck, if_pos (show cCl (csR c6 803 r (.ref lu)) r = 8 from hr6), hs64]
      have hlv5 : cnt s5 63 = lv := by
        rw [th_cnt hPQ.2.2.1 (by decide)]
        show cnt s3 63 = lv
        rw [h633]; exact hlv
      refine J_rowG (f0 := f5) (p0 := p5) (vo0 := vo4) (c0 := csR c5 803 r (.ref lu)) (s0 := s5) (G := fun rc rt => PX χ n t r f p vo Op Oa Ou E O c s H D rc rt) (fun rc rt hb => Or.inl (pB_step hb (by show cNx c5 + _ ≤ _; omega) (by show cSl c5 + _ ≤ _; omega) (fun _ _ q => q) (fun q s' e _ => ⟨q, s', e, rfl, rfl⟩))) dc dt (hsub _) hlv5 hlenU5 hPI5.1.2.2.1 (fun x s' q2 => ?_) hR6 hS6 (fun _ _ => rfl) (KS_th hW6.2.2.2.1 (by decide)) hW6.2.1 (by omega) (by omega) (fun a x c8 s8 p8 f8 hX8 => ?_)
      · show ∃ q s'', tsaI s' 41 (Int32.ofNat (cnt s 35)) x _ = _ ∧ _
        rw [qs_41 hu60, r_tpI, r_tpI]
        exact ⟨_, _, rfl, rfl, rfl⟩
      · exact fun_end dc dt hH hH2 hD2 hR rfl rfl hB3 (by omega) hUN3 (by rw [oA3]; exact k68) hKCe hKTe hPI5 hPQ hX8 (by omega) (by omega)
    · have hq' : ¬ (tI w5 6 = 0 ∧ tI w5 8 = 5 ∧ tI w5 11 = 123) := fun q => hq q.2
      have hsg := lx_sgn hLX5 (x := 123) (by decide)
      have hfH : tI (fH w5 1 (if tI w5 8 = 0 then tI w5 4 else tI w5 9)) 6 ≠ 0 := by rw [(fH_6 hfi5).1]; decide
      left
      rw [decide_eq_false hq', bi_f, if_pos rfl, t_misfit (dt + 29), b_V, uX7_fun_43, F_fine (dt + 30) hfH, b_I, if_pos rfl, c_signE (dc + 16) 123 hw5 hl5, if_neg (fun q => hq (Eq.mp hsg q)), b_Vx]
      obtain ⟨y1, _⟩ := lx_mis hLX5 hfi5 1 (by decide)
      exact ⟨cNx c5, _, Int32.ofNat N, _, 1, Int32.ofNat f5, rfl, rfl, y1, y2, y3, by decide, by rw [(wH_nx _ _ _).1]; omega, by rw [(wH_nx _ _ _).2]; omega⟩
  · left
    have em : cC (dc + 31) 803 [eR (.ref r), eI 0, eI 4] c = some (.inr (.ref (cNx c)), wH c 4 (cI c 1005 (r + 16))) := (c_must (dc + 17) false 4 hS.1 hS.2.1 hw hl).trans (if_neg (by decide))
    rw [if_neg (fun q => hlt (Eq.mp q60 q)), uX8_fun_10, em, b_Vx]
    exact J_full (dt + 11) hR hlt (fun x => FHa 0 x)
end
