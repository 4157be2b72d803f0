set_option maxRecDepth 100000
set_option maxHeartbeats 4000000
/-! D61: priv, without a limit -/
section
variable {χ : Nat → Int32} {n t r : Nat} {Oa Ou : Nat → Prop} {O : Nat}
theorem S_priv (dc dt : Nat) {H D lv H2 D2 : Nat} (hH : 1 ≤ H2 → 14 ≤ H) (hH2 : H2 ≤ 149) (hD2 : D2 ≤ 24) (hsub2 : ∀ Ou', SP χ n t r Oa Ou' O lv H2 D2 (dc + 30) 829 (dt + 30) 57) (vo : Nat → Nat) (Op : Nat → Prop) (E p f : Nat) (c : cS) (s : tS) (hlv : cnt s 63 = lv) (hR : RP χ n t r p f vo Op Oa Ou E O c s) (h8 : tI s 8 ≠ 0)
    (hlim : ∀ (c2 : cS) (s2 : tS) (p2 f2 : Nat), RP χ n t r p2 f2 vo Op Oa Ou (E + 60) O c2 s2 → ST n r f c s f2 c2 s2 → p ≤ f2 → f < f2 → cNx c2 + 300 * (n - f2) + 298 ≤ cNx c + 300 * (n - f) → cSl c2 + 2000 * (n - f2) + 1992 ≤ cSl c + 2000 * (n - f) → KS s s2 → cnt s2 62 = cnt s 62 + 1 → cnt s2 35 = cnt s 35 → cnt s2 65 = cnt s 65 → cnt s 35 < 60 → tI s2 8 = 5 → tI s2 11 = 91 →
      PX χ n t r f p vo Op Oa Ou E O c s H D (if cnt s2 22 < 12 then fX8_privileged_38 (cC (dc + 31)) (.ref r) (Int32.ofNat f) 1 (.ref r) 1 c2 else fX8_privileged_38 (cC (dc + 31)) (.ref r) (Int32.ofNat f) 1 (.ref r) 0 c2) (if tI s2 22 = (12 : Int32) then bV (cT (dt + 31) 13 [eR (.ref 0), eI 4] (ndT (nuT s2 (cnt s2 35) 2 (tA s2 37 (cnt s2 64)) (tI s2 64) (Int32.ofNat f) (tL s 12)) 10 (Int32.ofNat (cnt s2 35)) 0)) fun h16 => some (.inl (some (eI (Int32.ofNat (cnt s2 65)))), h16) else tsaI (ndT (nuT s2 (cnt s2 35) 2 (tA s2 37 (cnt s2 64)) (tI s2 64) (Int32.ofNat f) (tL s 12)) 10 (Int32.ofNat (cnt s2 35)) 0) 36 (Int32.ofNat (cnt s2 35)) 3 fun h12 => tsaI h12 42 (Int32.ofNat (cnt s2 35)) (tI h12 22) fun h13 => tpI h13 22 ((tI h13 22) + 1) fun h14 => tsaI h14 23 ((8 : Int32) + (tI h13 22)) 0 fun h15 => fX7_priv_66 (cT (dt + 31)) (Int32.ofNat (cnt s2 35)) (Int32.ofNat (cnt s2 65)) ((8 : Int32) + (tI h13 22)) 1 h15)) :
    PX χ n t r f p vo Op Oa Ou E O c s H D (cC (dc + 32) 827 [eR (.ref r)] c) (cT (dt + 32) 58 [eR (.ref 0)] s) := by
  have hS := hR.2.2.2.1.1
  have hw := hR.1.1.1.1
  have hl := hR.1.1.2.2.2.2.1.1
  have hU := hR.2.2.2.1.2.2.2.2.2.1
  have hlen := hU.2.1.1
  have h60 := hU.1.2
  have hz := RP_len hR
  rw [kX8_privileged, r_cck, if_pos hS.1, uX8_privileged, r_cgR, if_pos hS.1, hS.2.2.1, r_cgR, if_pos hS.2.2.2.2.1, hS.2.2.2.2.2.1.2.2.2.1, c_len (dc + 22) (RSt_uL hS) rfl, b_I, hlen, kX7_priv, uX7_priv]
  simp only [show (60 : Int32) = Int32.ofNat 60 from rfl, z_lt (show cnt s 35 < 2147483648 by omega) (show 60 < 2147483648 by decide)]
  have F81 : ∀ (v x : Int32) (q : tS), tI q 6 ≠ 0 → fX7_priv_81 (cT (dt + 31)) v x q = some (.inl (some (eI x)), q) := fun v x q hq => by
    rw [uX7_priv_81, F_sign (dt + 27) _ hq, b_V, F_bodyOf (dt + 29) _ hq, b_V]
  have F66 : ∀ (v x y z : Int32) (q : tS), tI q 6 ≠ 0 → fX7_priv_66 (cT (dt + 31)) v x y z q = some (.inl (some (eI x)), q) := fun v x y z q hq => by
    rw [uX7_priv_66]
    by_cases w : z = 0
    · rw [if_pos w, F81 v x q hq]
    · rw [if_neg w, F_fine (dt + 30) hq, b_I, if_pos rfl, F81 v x q hq]
  have FHa : ∀ v x : Int32, FH fun h8 => bI (cT (dt + 31) 27 [eR (.ref 0), eI 91] h8) fun v10 h9 => if v10 = 0 then bV (cT (dt + 31) 59 [eR (.ref 0), eI v] h9) fun h11 => some (.inl (some (eI x)), h11) else if (tI h9 22) = (12 : Int32) then bV (cT (dt + 31) 13 [eR (.ref 0), eI 4] h9) fun h16 => some (.inl (some (eI x)), h16) else tsaI h9 36 v 3 fun h12 => tsaI h12 42 v (tI h12 22) fun h13 => tpI h13 22 ((tI h13 22) + 1) fun h14 => tsaI h14 23 ((8 : Int32) + (tI h13 22)) 0 fun h15 => fX7_priv_66 (cT (dt + 31)) v x ((8 : Int32) + (tI h13 22)) 1 h15 := fun v x s' q2 => by
    dsimp only
    rw [F_isSign (dt + 29) _ q2, b_I, if_pos rfl, F_bodyOf (dt + 29) _ q2, b_V]
    exact ⟨_, _, rfl, rfl, rfl⟩
  by_cases hlt : cnt s 35 < 60
  · have em : ∀ q : cS, RSt r q → cCl q (r + 16) = 10 → r + 16 < cNx q → cC (dc + 31) 803 [eR (.ref r), eI 1, eI 4] q = some (.inl none, q) := fun q q1 q2 q3 => (c_must (dc + 17) true 4 q1.1 q1.2.1 q2 q3).trans (if_pos rfl)
    rw [if_pos hlt, uX8_privileged_10, em c hS hw hl, b_V]
    refine J_part (dc + 16) (dt + 28) hR (fun hR1 hST1 h62 => ?_)
    have hI1 := hR1.2.2.2.1.2.2.2.2.2.2.2.1
    have hU1 := hR1.2.2.2.1.2.2.2.2.2.1
    have e64 : tI (ptT s) 64 = Int32.ofNat (cnt s 64) := hI1.1.1.1
    have hw35 : cnt s 64 < cnt s 35 := hI1.1.2.1
    have h35t : tI (ptT s) 35 = Int32.ofNat (cnt (ptT s) 35) := hU1.1.1
    obtain ⟨_, hff, hj2, hj3, _⟩ := hR1.1
    have hw1 : cCl (ptC c r) (r + 16) = 10 := hR1.1.1.1.1
    have hn62 := hR.2.2.2.1.2.1.2.2.2.2.2
    have hok62 := hR1.2.2.2.1.2.1.1.1.2
    have e35 : cnt (ptT s) 35 = cnt s 35 := rfl
    have e65 : cnt (ptT s) 65 = cnt s 65 := rfl
    have e12 : tL (ptT s) 12 = tL s 12 := rfl
    rw [RP_800 hR1, r_cgI, if_pos hw1, hj2, RP_800 hR1, e64, q_37 (by omega), ← e64, t_newUnit (dt + 29) _ _ _ hR1.2.1 h35t hlt, b_I, hj3, e35, e12]
    have hthn := nu_th (ptT s) (cnt s 35) 2 (tA (ptT s) 37 (cnt s 64)) (tI (ptT s) 64) (Int32.ofNat f) (tL s 12)
    have n65 : tI (nuT (ptT s) (cnt s 35) 2 (tA (ptT s) 37 (cnt s 64)) (tI (ptT s) 64) (Int32.ofNat f) (tL s 12)) 65 = tI s 65 := th_I hthn (by decide)
    have c65 : cnt (nuT (ptT s) (cnt s 35) 2 (tA (ptT s) 37 (cnt s 64)) (tI (ptT s) 64) (Int32.ofNat f) (tL s 12)) 65 = cnt s 65 := (th_cnt hthn (by decide)).trans rfl
    rw [t_node (dt + 30) _ _ _ (by rw [n65, c65]; exact hR.2.2.2.1.2.1.2.2.2.2.1.1) (by rw [c65]; omega), b_I, c65]
    have hthd := nd_th (nuT (ptT s) (cnt s 35) 2 (tA (ptT s) 37 (cnt s 64)) (tI (ptT s) 64) (Int32.ofNat f) (tL s 12)) 10 (Int32.ofNat (cnt s 35)) 0
    have hnp : cNx (ptC c r) = cNx c := rfl
    have hnp2 : cSl (ptC c r) = cSl c := rfl
    rcases P_nextO (dc + 11) (dt + 11) hR1 (q := ndT (nuT (ptT s) (cnt s 35) 2 (tA (ptT s) 37 (cnt s 64)) (tI (ptT s) 64) (Int32.ofNat f) (tL s 12)) 10 (Int32.ofNat (cnt s 35)) 0) (by rw [th_I hthd (by decide), th_I hthn (by decide)]; exact hR1.2.1) (fun x hx => by rw [th_I hthd (by simp only [List.mem_cons, List.not_mem_nil, or_false] at hx ⊢; omega), th_I hthn (by simp only [List.mem_cons, List.not_mem_nil, or_false] at hx ⊢; omega)]) (fun k => by rw [th_A hthd (by decide), th_A hthn (by decide)]) with hb | ⟨c2, z, p2, f2, e5, e6, hzq, hW⟩
    · left
      exact j_lx hb (f1 := f) (by omega) (by omega) (FHa _ _)
    · rw [ov_nd, ov_nu] at hzq
      have oI : ∀ x, x ∉ lexI → tI (ov z (ptT s)) x = tI (ptT s) x := fun x hx => ov_tI z _ hx
      obtain ⟨hS4, hS4'⟩ := WK_ST hR1 hW
      obtain ⟨m1, m2, m3⟩ := hS4' (show tI (ptT s) 8 ≠ 0 from h8)
      have hR2 := hW.1
      have hth2 := hW.2.2.2.1
      have hpp := hW.2.1
      have q64 : tI (ov z (ptT s)) 64 = tI (ptT s) 64 := oI 64 (by decide)
      have c64 : cnt (ov z (ptT s)) 64 = cnt s 64 := (ov_cnt z (ptT s) (by decide)).trans rfl
      have c35 : cnt (ov z (ptT s)) 35 = cnt s 35 := (ov_cnt z (ptT s) (by decide)).trans rfl
      have c65' : cnt (ov z (ptT s)) 65 = cnt s 65 := (ov_cnt z (ptT s) (by decide)).trans rfl
      have c62 : cnt (ov z (ptT s)) 62 = cnt s 62 + 1 := (ov_cnt z (ptT s) (by decide)).trans h62
      have o37 : tA (ptT s) 37 (cnt s 64) = tA (ov z (ptT s)) 37 (cnt (ov z (ptT s)) 64) := by rw [c64]; rfl
      rw [o37, ← q64, ← c35] at hzq
      have hKS2 : KS s (ov z (ptT s)) := ⟨K1_A rfl ((ov_cnt z (ptT s) (by decide)).trans rfl) c35 c64, (ov_cnt z (ptT s) (by decide)).trans rfl, fun _ _ => rfl, (ov_cnt z (ptT s) (by decide)).trans rfl, c64⟩
      have hl0 : (cLs c (r + 8)).length ≤ (cLs (ptC c r) (r + 8)).length := Nat.le_refl _
      have hST2 : ST n r f c s f2 c2 (ov z (ptT s)) := ST_trans hl0 hST1 hS4
      rw [e5, e6, b_V, b_V, RP_800 hR2, c_isSign (dc + 30) 91 hR2.1.1.1.1, b_I, t_isSign (dt + 29), b_I]
      simp only [lx_sgn hR2.1 (x := 91) (by decide)]
      rw [← c35, ← c65']
      generalize hs2 : ov z (ptT s) = s2 at *
      have hthn2 := nu_th s2 (cnt s2 35) 2 (tA s2 37 (cnt s2 64)) (tI s2 64) (Int32.ofNat f) (tL s 12)
      have hthd2 := nd_th (nuT s2 (cnt s2 35) 2 (tA s2 37 (cnt s2 64)) (tI s2 64) (Int32.ofNat f) (tL s 12)) 10 (Int32.ofNat (cnt s2 35)) 0
      have zI : ∀ x, x ∉ [35, 65] → tI z x = tI s2 x := fun x hx => by
        rw [← hzq, th_I hthd2 (by simp only [List.mem_cons, List.not_mem_nil, or_false] at hx ⊢; omega), th_I hthn2 (by simp only [List.mem_cons, List.not_mem_nil, or_false] at hx ⊢; omega)]
      rw [zI 6 (by decide), zI 8 (by decide), zI 11 (by decide), hR2.2.1]
      simp only [true_and]
      by_cases hbr : tI s2 8 = 5 ∧ tI s2 11 = 91
      · have hL2 := hR2.2.2.2.1.2.2.2.1
        have hS2 := hR2.2.2.2.1.1
        have hlim2 := hL2.2.1.1
        have h12 := hL2.1.2
        have hh := hlim c2 s2 p2 f2 hR2 hST2 hpp m1 (by omega) (by omega) hKS2 c62 c35 c65' hlt hbr.1 hbr.2
        simp only [hbr, and_self, decide_true, bi_t, e10, if_false]
        rw [r_cgR, if_pos hS2.1, hS2.2.2.1, r_cgR, if_pos hS2.2.2.2.2.1, hS2.2.2.2.2.2.1.2.2.2.2.1, c_len (dc + 22) (RSt_lL hS2) rfl, b_I, hlim2, zI 22 (by decide)]
        simp only [show (12 : Int32) = Int32.ofNat 12 from rfl, z_lt (show cnt s2 22 < 2147483648 by omega) (show 12 < 2147483648 by decide)] at hh ⊢
        rw [hzq] at hh
        exact hh
      · simp only [hbr, decide_false, bi_f, if_true]
        have hw2 := hR2.1.1.1.1
        have hl2 := hR2.1.1.2.2.2.2.1.1
        rw [uX8_privileged_38, em c2 hR2.2.2.2.1.1 hw2 hl2, b_V, if_pos rfl, uX8_privileged_46]
        obtain ⟨c3, e7, hR3, hKC3, hKT3, hraw3, nx3, sl3, hlu, hcl⟩ := P_unit (dc + 19) (so := 2) (pl := Int32.ofNat f) (nam := tL s 12) (by decide) hR2 (by omega)
        have e7' : cC (dc + 31) 811 [eR (.ref r), eI 2, eI (Int32.ofNat f)] c2 = _ := e7
        rw [e7', b_R, if_pos rfl, uX8_privileged_92]
        have hnu := nu_new s2 (cnt s2 35) 2 (tA s2 37 (cnt s2 64)) (tI s2 64) (Int32.ofNat f) (tL s 12)
        obtain ⟨o1, o2⟩ := nu_old s2 (cnt s2 35) 2 (tA s2 37 (cnt s2 64)) (tI s2 64) (Int32.ofNat f) (tL s 12)
        have hR3' : RP χ n t r p2 f2 vo Op Oa (fun k => Ou k ∨ k = cnt s2 35) (E + 60) O c3 (nuT s2 (cnt s2 35) 2 (tA s2 37 (cnt s2 64)) (tI s2 64) (Int32.ofNat f) (tL s 12)) := hR3
        have hKT3' : KT s2 (nuT s2 (cnt s2 35) 2 (tA s2 37 (cnt s2 64)) (tI s2 64) (Int32.ofNat f) (tL s 12)) := hKT3
        have f65 : cnt (nuT s2 (cnt s2 35) 2 (tA s2 37 (cnt s2 64)) (tI s2 64) (Int32.ofNat f) (tL s 12)) 65 = cnt s2 65 := th_cnt hthn2 (by decide)
        have f62 : cnt (nuT s2 (cnt s2 35) 2 (tA s2 37 (cnt s2 64)) (tI s2 64) (Int32.ofNat f) (tL s 12)) 62 = cnt s2 62 := th_cnt hthn2 (by decide)
        have hl23 : (cLs c (r + 8)).length ≤ (cLs c2 (r + 8)).length := ST_len hR hR2 hST2
        have hSTn : ST n r f c s f2 c3 (nuT s2 (cnt s2 35) 2 (tA s2 37 (cnt s2 64)) (tI s2 64) (Int32.ofNat f) (tL s 12)) := ⟨KC_trans hl23 hST2.1 hKC3, KT_trans hST2.2.1 hKT3', fun y hy zz hzz => by
          rw [th_A hthn2 (by simp only [List.mem_cons, List.not_mem_nil, or_false] at hzz ⊢; omega)]; exact hST2.2.2.1 y hy zz hzz, by omega, by omega, hST2.2.2.2.2.2.1, fun b q => hraw3 b (hST2.2.2.2.2.2.2 b q)⟩
        have hKSn : KS s (nuT s2 (cnt s2 35) 2 (tA s2 37 (cnt s2 64)) (tI s2 64) (Int32.ofNat f) (tL s 12)) := KS_trans hKS2 ⟨K1_kt hR2.2.2.2.1.2.2.2.2.2.1 hKT3' (th_cnt hthn2 (by decide)) (th_cnt hthn2 (by decide)) hR2.2.2.2.1.2.2.2.2.2.2.2.1.1.2.1 (fun k hk => ca_eq (o1 44 k (by omega))), th_cnt hthn2 (by decide), fun i _ => th_A hthn2 (by decide) i, th_cnt hthn2 (by decide), th_cnt hthn2 (by decide)⟩
        obtain ⟨_, hB4, k68, _⟩ := BS_node (dt + 30) (E := E) (X := 60) (K := 10) hz hR3' hSTn (fun _ _ => rfl) hKSn (by decide) (Int32.ofNat (cnt s2 35)) 0 (by rw [f65, f62]; omega)
        have hz' : ndT (nuT s2 (cnt s2 35) 2 (tA s2 37 (cnt s2 64)) (tI s2 64) (Int32.ofNat f) (tL s 12)) (Int32.ofNat 10) (Int32.ofNat (cnt s2 35)) 0 = z := hzq
        rw [hz', f65] at hB4 k68
        have hUN3 : UN r c3 (nuT s2 (cnt s2 35) 2 (tA s2 37 (cnt s2 64)) (tI s2 64) (Int32.ofNat f) (tL s 12)) (cnt s2 35) (cnt s2 64) 2 (cNx c2) := by
          have hI2 := hR2.2.2.2.1.2.2.2.2.2.2.2.1
          have hU3 := hR3'.2.2.2.1.2.2.2.2.2.1
          have c35n : cnt (nuT s2 (cnt s2 35) 2 (tA s2 37 (cnt s2 64)) (tI s2 64) (Int32.ofNat f) (tL s 12)) 35 = cnt s2 35 + 1 := cnt_of hnu.1 (by omega)
          have hw2 := hI2.1.2.1
          refine ⟨by omega, ?_, hw2, ?_, hlu, ?_⟩
          · rw [hnu.2.2.2.2.2.1]; exact hI2.1.1.1
          · exact hnu.2.1
          · obtain ⟨_, ⟨_, m1', m2'⟩, _⟩ := hU3.2.2 (cnt s2 64) (by omega)
            obtain ⟨_, ⟨_, m3', m4'⟩, _⟩ := hU3.2.2 (cnt s2 35) (by omega)
            have eca : ca (nuT s2 (cnt s2 35) 2 (tA s2 37 (cnt s2 64)) (tI s2 64) (Int32.ofNat f) (tL s 12)) 37 (cnt s2 35) = ca (nuT s2 (cnt s2 35) 2 (tA s2 37 (cnt s2 64)) (tI s2 64) (Int32.ofNat f) (tL s 12)) 37 (cnt s2 64) := by unfold ca; rw [hnu.2.2.1, o1 37 (cnt s2 64) (by omega)]
            rw [← hlu, m2', m4', eca]
        obtain ⟨_, _, hSTd⟩ := P_node (dt + 30) 10 (by decide) (Int32.ofNat (cnt s2 35)) 0 hR3' (by rw [f65, f62]; omega)
        rw [hz'] at hSTd
        have hUN4 := UN_st hR3' (KC_refl r c3) hSTd.2.1 hUN3
        rw [c64] at hUN4
        have hN9 : cnt s2 65 < 900 := by have := hB4.2.2.2.2.1; have := hB4.1.2.2.2.1.2.1.2.2.2.2.1.2; omega
        have h44 : ca z 44 (cnt s2 35) = 0 := by
          rw [← hz', th_ca (nd_th _ _ _ _) (by decide)]
          unfold ca
          rw [hnu.2.2.2.2.2.2.1]; rfl
        refine B_body dc dt hR hB4 (hsub2 _) hlv hUN4 h44 (by decide) (fun q => absurd q (by decide)) c35 hH2 hD2 (fun s' q2 => ⟨_, _, rfl, rfl, rfl⟩) (fun a2 c5 s5 p5 f5 vo5 hB5 hp5 hf5 m7 m8 hK5 hT5 ho5 hUN5 hH1 => ?_)
        have hH := hH hH1
        rw [r_cnw]
        have hR5 := hB5.1
        have hn5 := hR5.2.2.1
        have ha5 : cCl c5 (cNx c5) = 0 := (hn5 _ (Nat.le_refl _)).1
        have hnw : cmore (csCl c5 (cNx c5) 24) (csz 24) = nwC c5 24 := rfl
        have e11 := c_iu (dc + 20) (c := nwC c5 24) (a := cNx c5) (v1 := .ref (cNx c2)) (v2 := .null) (nw_cl c5 24) rfl rfl
        have hfr : FR c5 (iuC (nwC c5 24) (cNx c5) (.ref (cNx c2)) .null) := FR_R ha5 (FR_R ha5 (FR_nw ha5 (FR_refl c5)))
        have hcl6 : CLN (iuC (nwC c5 24) (cNx c5) (.ref (cNx c2)) .null) := cC_cln e11 (P_new 24 hR5).2.2.1
        have hnx6 : cNx (iuC (nwC c5 24) (cNx c5) (.ref (cNx c2)) .null) = cNx c5 + 1 := rfl
        have hsl6 : cSl (iuC (nwC c5 24) (cNx c5) (.ref (cNx c2)) .null) = cSl c5 + csz 24 := rfl
        have hcz : csz 24 ≤ 10 := by decide
        have hR6 := RP_FR hfr (NF_nw (k := 24) (by decide) (NF_refl c5)) hcl6 hR5
        have hK6 := FR_kc hfr (NF_nw (k := 24) (by decide) (NF_refl c5)) hR5.2.2.2.1.1
        have g1 : cCl (iuC (nwC c5 24) (cNx c5) (.ref (cNx c2)) .null) (cNx c5) = 24 := nw_cl c5 24
        have g2 : cR (iuC (nwC c5 24) (cNx c5) (.ref (cNx c2)) .null) 2400 (cNx c5) = .ref (cNx c2) := by simp [iuC, gC]
        have g3 : cR (iuC (nwC c5 24) (cNx c5) (.ref (cNx c2)) .null) 2401 (cNx c5) = .null := by simp [iuC, gC]
        have hUN6 := UN_st hR5 hK6 (KT_refl s5) hUN5
        have k685 : tA s5 68 (cnt s2 65) = Int32.ofNat (cnt s2 35) := by rw [ho5 68 (by simp)]; exact k68
        rw [hnw, e11, b_V]
        obtain ⟨r1, r2, r3, r4, r5⟩ := BS_root hB5 (by decide)
        have hraw6 : ∀ b, raw c b → raw (iuC (nwC c5 24) (cNx c5) (.ref (cNx c2)) .null) b := fun b q => FR_raw hfr (NF_nw (k := 24) (by decide) (NF_refl c5)) b (hB5.2.1.2.2.2.2.2.2 b q)
        generalize iuC (nwC c5 24) (cNx c5) (.ref (cNx c2)) .null = c6 at *
        obtain ⟨u1, u2, u3, u4, u5, u6⟩ := hUN6
        have h605 : cnt s5 35 ≤ 60 := hR5.2.2.2.1.2.2.2.2.2.1.1.2
        have c68 := ca_of k685 (by omega)
        have hk70 : tA s5 70 (cnt s2 65) = -1 := hB5.2.2.2.2.2.2.2.2.2.1
        right
        refine ⟨cNx c5, cnt s2 65, c6, s5, p5, f5, rfl, rfl, BS_fin (g := 1) hz (by omega) hB5 ?_ hK6 (by omega) (by omega) hraw6 ?_⟩
        · rw [← Nat.add_assoc]
          exact P_close10 hR6 r5 k685 u1 (by rw [r3]; exact u2) (fun q => by rw [u4] at q; exact absurd q (by decide))
        · refine Or.inr ⟨r1, r2, r3, r4, by omega, by omega, ?_⟩
          refine Or.inr (Or.inr (Or.inr (Or.inr (Or.inr (Or.inr (Or.inr (Or.inr (Or.inl ⟨g1, hH, by omega, aok_of k685 (by omega) (by omega), by rw [c68]; exact u1, by rw [c68, u5]; exact g2, by rw [c68, ca_of u2 (by omega)], by rw [c68, u2, ne_eq, ofNat_ne_m1 (by omega)]; exact id, ?_⟩))))))))
          exact Or.inr (Or.inl ⟨r5, Or.inl (by rw [c68]; exact u4), g3, hk70⟩)
  · left
    have em : cC (dc + 31) 803 [eR (.ref r), eI 0, eI 4] c = some (.inr (.ref (cNx c)), wH c 4 (cI c 1005 (r + 16))) := (c_must (dc + 17) false 4 hS.1 hS.2.1 hw hl).trans (if_neg (by decide))
    rw [if_neg hlt, uX8_privileged_10, em, b_Vx]
    exact J_full (dt + 11) hR hlt (fun x => FHa 0 x)
end
