set_option maxRecDepth 100000
set_option maxHeartbeats 4000000
/-! D92: priv with a limit -/
theorem A_cm (s : tS) {x x' : Nat} (h : x ≠ x') (j j' : Nat) (v v' : Int32) : tsA (tsA s x j v) x' j' v' = tsA (tsA s x' j' v') x j v := by
  refine st_ext rfl rfl (fun y i => ?_) rfl
  simp only [t_A_A]
  by_cases q : y = x' ∧ i = j'
  · rw [if_pos q, if_neg (fun z => h (z.1.symm.trans q.1)), if_pos q]
  · rw [if_neg q, if_neg q]
theorem nu_36 (s : tS) (u : Nat) (a b m w pl : Int32) (nam : Int64) : tsA (nuT s u a m w pl nam) 36 u b = nuT s u b m w pl nam := by
  have e : ∀ q : tS, tsA (tsB q 43 u nam) 36 u b = tsB (tsA q 36 u b) 43 u nam := fun _ => rfl
  unfold nuT
  rw [e, A_cm _ (x := 55) (by decide), A_cm _ (x := 42) (by decide), A_cm _ (x := 46) (by decide), A_cm _ (x := 44) (by decide), A_cm _ (x := 40) (by decide), A_cm _ (x := 39) (by decide), A_cm _ (x := 38) (by decide), A_cm _ (x := 37) (by decide), nT.2.2.1]
theorem nd_36 (s : tS) (u : Nat) (b k x y : Int32) : tsA (ndT s k x y) 36 u b = ndT (tsA s 36 u b) k x y := by
  unfold ndT
  rw [A_cm _ (x := 72) (by decide), A_cm _ (x := 71) (by decide), A_cm _ (x := 70) (by decide), A_cm _ (x := 69) (by decide), A_cm _ (x := 68) (by decide), A_cm _ (x := 67) (by decide), A_cm _ (x := 66) (by decide)]
  rfl
section
variable {χ : Nat → Int32} {n t r : Nat} {Oa Ou : Nat → Prop} {O : Nat}
theorem J_lim (dc dt : Nat) {H D lv H2 D2 : Nat} (hH : 1 ≤ H2 → 14 ≤ H) (hH2 : H2 ≤ 149) (hD2 : D2 ≤ 24) (hsub2 : ∀ Ou', SP χ n t r Oa Ou' O lv H2 D2 (dc + 30) 829 (dt + 30) 57) (vo : Nat → Nat) (Op : Nat → Prop) (E p f : Nat) (c : cS) (s : tS) (hlv : cnt s 63 = lv) (hR : RP χ n t r p f vo Op Oa Ou E O c s)
    (c2 : cS) (s2 : tS) (p2 f2 : Nat) (hR2 : RP χ n t r p2 f2 vo Op Oa Ou (E + 60) O c2 s2) (hST2 : ST n r f c s f2 c2 s2) (hpp : p ≤ f2) (m1 : f < f2) (m2 : cNx c2 + 300 * (n - f2) + 298 ≤ cNx c + 300 * (n - f)) (m3 : cSl c2 + 2000 * (n - f2) + 1992 ≤ cSl c + 2000 * (n - f)) (hKS2 : KS s s2) (c62 : cnt s2 62 = cnt s 62 + 1) (c35 : cnt s2 35 = cnt s 35) (c65 : cnt s2 65 = cnt s 65) (hlt : cnt s 35 < 60) (h8 : tI s2 8 = 5) (h11 : tI s2 11 = 91) :
    PX χ n t r f p vo Op Oa Ou E O c s H D (if cnt s2 22 < 12 then fX8_privileged_38 (cC (dc + 31)) (.ref r) (Int32.ofNat f) 1 (.ref r) 1 c2 else fX8_privileged_38 (cC (dc + 31)) (.ref r) (Int32.ofNat f) 1 (.ref r) 0 c2) (if tI s2 22 = (12 : Int32) then bV (cT (dt + 31) 13 [eR (.ref 0), eI 4] (ndT (nuT s2 (cnt s2 35) 2 (tA s2 37 (cnt s2 64)) (tI s2 64) (Int32.ofNat f) (tL s 12)) 10 (Int32.ofNat (cnt s2 35)) 0)) fun h16 => some (.inl (some (eI (Int32.ofNat (cnt s2 65)))), h16) else tsaI (ndT (nuT s2 (cnt s2 35) 2 (tA s2 37 (cnt s2 64)) (tI s2 64) (Int32.ofNat f) (tL s 12)) 10 (Int32.ofNat (cnt s2 35)) 0) 36 (Int32.ofNat (cnt s2 35)) 3 fun h12 => tsaI h12 42 (Int32.ofNat (cnt s2 35)) (tI h12 22) fun h13 => tpI h13 22 ((tI h13 22) + 1) fun h14 => tsaI h14 23 ((8 : Int32) + (tI h13 22)) 0 fun h15 => fX7_priv_66 (cT (dt + 31)) (Int32.ofNat (cnt s2 35)) (Int32.ofNat (cnt s2 65)) ((8 : Int32) + (tI h13 22)) 1 h15) := by
  have hz := RP_len hR
  have hw2 := hR2.1.1.1.1
  have hl2 := hR2.1.1.2.2.2.2.1.1
  have hS2 := hR2.2.2.2.1.1
  have hI2 := hR2.2.2.2.1.2.2.2.2.2.2.2.1
  have hU2 := hR2.2.2.2.1.2.2.2.2.2.1
  have h22 := hR2.2.2.2.1.2.2.2.1.1
  have c64 : cnt s2 64 = cnt s 64 := hKS2.2.2.2.2
  have hok62 := hR2.2.2.2.1.2.1.1.1.2
  have hn62 := hR.2.2.2.1.2.1.2.2.2.2.2
  have e22 : tI s2 22 = Int32.ofNat (cnt s2 22) := h22.1
  have h12' := h22.2
  have hcond : (tI s2 22 = (12 : Int32)) = (cnt s2 22 = 12) := by rw [e22, show (12 : Int32) = Int32.ofNat 12 from rfl, z_eq (by omega) (by decide)]
  by_cases h12 : cnt s2 22 < 12
  · rw [if_pos h12, if_neg (fun q => by rw [hcond] at q; omega)]
    have em : cC (dc + 31) 803 [eR (.ref r), eI 1, eI 4] c2 = some (.inl none, c2) := (c_must (dc + 17) true 4 hS2.1 hS2.2.1 hw2 hl2).trans (if_pos rfl)
    rw [uX8_privileged_38, em, b_V, if_neg n10, uX8_privileged_46]
    obtain ⟨c3, e7, hR3, hKC3, hKT3, hraw3, nx3, sl3, hlu, hcl, hls3⟩ := P_unit (dc + 19) (so := 3) (pl := Int32.ofNat f) (nam := tL s 12) (by decide) hR2 (by omega)
    have e7' : cC (dc + 31) 811 [eR (.ref r), eI 3, eI (Int32.ofNat f)] c2 = _ := e7
    rw [e7', b_R, if_neg n10]
    have hnu := nu_new s2 (cnt s2 35) 3 (tA s2 37 (cnt s2 64)) (tI s2 64) (Int32.ofNat f) (tL s 12)
    obtain ⟨o1, o2⟩ := nu_old s2 (cnt s2 35) 3 (tA s2 37 (cnt s2 64)) (tI s2 64) (Int32.ofNat f) (tL s 12)
    have hthn2 := nu_th s2 (cnt s2 35) 3 (tA s2 37 (cnt s2 64)) (tI s2 64) (Int32.ofNat f) (tL s 12)
    have hthd2 := nd_th (nuT s2 (cnt s2 35) 3 (tA s2 37 (cnt s2 64)) (tI s2 64) (Int32.ofNat f) (tL s 12)) 10 (Int32.ofNat (cnt s2 35)) 0
    have hR3' : RP χ n t r p2 f2 vo Op Oa (fun k => Ou k ∨ k = cnt s2 35) (E + 60) O c3 (nuT s2 (cnt s2 35) 3 (tA s2 37 (cnt s2 64)) (tI s2 64) (Int32.ofNat f) (tL s 12)) := hR3
    have hKT3' : KT s2 (nuT s2 (cnt s2 35) 3 (tA s2 37 (cnt s2 64)) (tI s2 64) (Int32.ofNat f) (tL s 12)) := hKT3
    have f65 : cnt (nuT s2 (cnt s2 35) 3 (tA s2 37 (cnt s2 64)) (tI s2 64) (Int32.ofNat f) (tL s 12)) 65 = cnt s2 65 := th_cnt hthn2 (by decide)
    have f62 : cnt (nuT s2 (cnt s2 35) 3 (tA s2 37 (cnt s2 64)) (tI s2 64) (Int32.ofNat f) (tL s 12)) 62 = cnt s2 62 := th_cnt hthn2 (by decide)
    have hl23 : (cLs c (r + 8)).length ≤ (cLs c2 (r + 8)).length := ST_len hR hR2 hST2
    have hSTn : ST n r f c s f2 c3 (nuT s2 (cnt s2 35) 3 (tA s2 37 (cnt s2 64)) (tI s2 64) (Int32.ofNat f) (tL s 12)) := ⟨KC_trans hl23 hST2.1 hKC3, KT_trans hST2.2.1 hKT3', fun y hy zz hzz => by
      rw [th_A hthn2 (by simp only [List.mem_cons, List.not_mem_nil, or_false] at hzz ⊢; omega)]; exact hST2.2.2.1 y hy zz hzz, by omega, by omega, hST2.2.2.2.2.2.1, fun b q => hraw3 b (hST2.2.2.2.2.2.2 b q)⟩
    have hKSn : KS s (nuT s2 (cnt s2 35) 3 (tA s2 37 (cnt s2 64)) (tI s2 64) (Int32.ofNat f) (tL s 12)) := KS_trans hKS2 ⟨K1_kt hR2.2.2.2.1.2.2.2.2.2.1 hKT3' (th_cnt hthn2 (by decide)) (th_cnt hthn2 (by decide)) hR2.2.2.2.1.2.2.2.2.2.2.2.1.1.2.1 (fun k hk => ca_eq (o1 44 k (by omega))), th_cnt hthn2 (by decide), fun i _ => th_A hthn2 (by decide) i, th_cnt hthn2 (by decide), th_cnt hthn2 (by decide)⟩
    obtain ⟨_, hB4, k68, _⟩ := BS_node (dt + 30) (E := E) (X := 60) (K := 10) hz hR3' hSTn (fun _ _ => rfl) hKSn (by decide) (Int32.ofNat (cnt s2 35)) 0 (by rw [f65, f62]; omega)
    rw [f65] at hB4 k68
    have hw35 := hI2.1.2.1
    have c35n : cnt (nuT s2 (cnt s2 35) 3 (tA s2 37 (cnt s2 64)) (tI s2 64) (Int32.ofNat f) (tL s 12)) 35 = cnt s2 35 + 1 := cnt_of hnu.1 (by omega)
    have hUN3 : UN r c3 (nuT s2 (cnt s2 35) 3 (tA s2 37 (cnt s2 64)) (tI s2 64) (Int32.ofNat f) (tL s 12)) (cnt s2 35) (cnt s2 64) 3 (cNx c2) := by
      have hU3 := hR3'.2.2.2.1.2.2.2.2.2.1
      refine ⟨by omega, ?_, hw35, ?_, hlu, ?_⟩
      · rw [hnu.2.2.2.2.2.1]; exact hI2.1.1.1
      · exact hnu.2.1
      · obtain ⟨_, ⟨_, m1', m2'⟩, _⟩ := hU3.2.2 (cnt s2 64) (by omega)
        obtain ⟨_, ⟨_, m3', m4'⟩, _⟩ := hU3.2.2 (cnt s2 35) (by omega)
        have eca : ca (nuT s2 (cnt s2 35) 3 (tA s2 37 (cnt s2 64)) (tI s2 64) (Int32.ofNat f) (tL s 12)) 37 (cnt s2 35) = ca (nuT s2 (cnt s2 35) 3 (tA s2 37 (cnt s2 64)) (tI s2 64) (Int32.ofNat f) (tL s 12)) 37 (cnt s2 64) := by unfold ca; rw [hnu.2.2.1, o1 37 (cnt s2 64) (by omega)]
        rw [← hlu, m2', m4', eca]
    obtain ⟨_, _, hSTd⟩ := P_node (dt + 30) 10 (by decide) (Int32.ofNat (cnt s2 35)) 0 hR3' (by rw [f65, f62]; omega)
    have hUN4 := UN_st hR3' (KC_refl r c3) hSTd.2.1 hUN3
    have hw6 := (RUt_cap hU2 hw35).2.2.1
    have hlw3 : lid c3 (r + 8) (cnt s2 64) = lid c2 (r + 8) (cnt s2 64) := hKC3.2.2.2.2.2.2.2.2 _ (by rw [RP_len hR2]; exact hw35)
    have hl3 : cLs c3 (lid c2 (r + 8) (cnt s2 64) + 5) = cLs c2 (lid c2 (r + 8) (cnt s2 64) + 5) := hls3 _ (by rw [hw6]; decide) (fun q => by have := RSt_uL hS2; rw [← q, hw6] at this; exact absurd this (by decide))
    have hins3 : ∀ i, i < (cLs c3 (lid c3 (r + 8) (cnt s2 64) + 5)).length → lid c3 (lid c3 (r + 8) (cnt s2 64) + 5) i ≠ cNx c2 := by
      obtain ⟨_, f2'⟩ := hR2.2.2.2.1.2.2.2.2.2.2.2.2.1
      obtain ⟨K2, e13, ⟨X2, _, e14⟩, _⟩ := (f2' _ hw35).2.2.2.2.2.2.2.2.2.2
      rw [hlw3, hl3, e13.1]
      intro i hi q
      obtain ⟨x, _, _, _, _, y1, _, y2⟩ := e14 i hi
      rw [lid_eq (show nthD .null (cLs c3 (lid c2 (r + 8) (cnt s2 64) + 5)) i = nthD .null (cLs c2 (lid c2 (r + 8) (cnt s2 64) + 5)) i by rw [hl3]), y2] at q
      have := (e13.2 i hi).2
      rw [y2, q, (hR2.2.2.1 _ (Nat.le_refl _)).1] at this
      exact absurd this (by decide)
    have n36 : tA (ndT (nuT s2 (cnt s2 35) 3 (tA s2 37 (cnt s2 64)) (tI s2 64) (Int32.ofNat f) (tL s 12)) 10 (Int32.ofNat (cnt s2 35)) 0) 36 (cnt s2 35) = 3 := by rw [th_A hthd2 (by decide)]; exact hnu.2.1
    have n42 : tA (ndT (nuT s2 (cnt s2 35) 3 (tA s2 37 (cnt s2 64)) (tI s2 64) (Int32.ofNat f) (tL s 12)) 10 (Int32.ofNat (cnt s2 35)) 0) 42 (cnt s2 35) = -1 := by rw [th_A hthd2 (by decide)]; exact hnu.2.2.2.2.2.2.2.2.1
    have n44 : tA (ndT (nuT s2 (cnt s2 35) 3 (tA s2 37 (cnt s2 64)) (tI s2 64) (Int32.ofNat f) (tL s 12)) 10 (Int32.ofNat (cnt s2 35)) 0) 44 (cnt s2 35) = 0 := by rw [th_A hthd2 (by decide)]; exact hnu.2.2.2.2.2.2.1
    have n22 : tI (ndT (nuT s2 (cnt s2 35) 3 (tA s2 37 (cnt s2 64)) (tI s2 64) (Int32.ofNat f) (tL s 12)) 10 (Int32.ofNat (cnt s2 35)) 0) 22 = tI s2 22 := by rw [th_I hthd2 (by decide), th_I hthn2 (by decide)]
    have n8 : tI (ndT (nuT s2 (cnt s2 35) 3 (tA s2 37 (cnt s2 64)) (tI s2 64) (Int32.ofNat f) (tL s 12)) 10 (Int32.ofNat (cnt s2 35)) 0) 8 = 5 := by rw [th_I hthd2 (by decide), th_I hthn2 (by decide)]; exact h8
    have n35 : cnt s2 35 < cnt (ndT (nuT s2 (cnt s2 35) 3 (tA s2 37 (cnt s2 64)) (tI s2 64) (Int32.ofNat f) (tL s 12)) 10 (Int32.ofNat (cnt s2 35)) 0) 35 := by rw [th_cnt hthd2 (by decide), c35n]; omega
    rw [qs_36 (by omega), nd_36, nu_36, n22, qs_42 (by omega)]
    have hB4' : BS χ n t r f vo Op Oa (fun k => Ou k ∨ k = cnt s2 35) E 60 O c s (cnt s2 65) 10 [] p2 f2 vo c3 (ndT (nuT s2 (cnt s2 35) 3 (tA s2 37 (cnt s2 64)) (tI s2 64) (Int32.ofNat f) (tL s 12)) 10 (Int32.ofNat (cnt s2 35)) 0) := hB4
    clear hB4
    generalize ndT (nuT s2 (cnt s2 35) 3 (tA s2 37 (cnt s2 64)) (tI s2 64) (Int32.ofNat f) (tL s 12)) 10 (Int32.ofNat (cnt s2 35)) 0 = z at *
    have hN9 : cnt s2 65 < 900 := by have := hB4'.2.2.2.2.1; have := hB4'.1.2.2.2.1.2.1.2.2.2.2.1.2; omega
    have z22 : cnt z 22 = cnt s2 22 := by unfold cnt; rw [n22]
    have e1 : Int32.ofNat (cnt s2 22) + 1 = Int32.ofNat (cnt s2 22 + 1) := by rw [show (1 : Int32) = Int32.ofNat 1 from rfl, z_add]
    have e8' : (8 : Int32) + Int32.ofNat (cnt s2 22) = Int32.ofNat (8 + cnt s2 22) := by rw [show (8 : Int32) = Int32.ofNat 8 from rfl, z_add]
    obtain ⟨c4, e4, hR4, hKC4, hKT4, hraw4, nx4, sl4, hl4, L, hL4, hun4, hls4⟩ := P_lim (dc + 20) hB4'.1 n35 n36 n42 (by omega)
    have hth4 := li_th z (cnt s2 35) (cnt z 22)
    have hli : tsA (tsI (tsA z 42 (cnt s2 35) (tI s2 22)) 22 (tI (tsA z 42 (cnt s2 35) (tI s2 22)) 22 + 1)) 23 (8 + cnt s2 22) 0 = liT z (cnt s2 35) (cnt z 22) := by
      rw [show tI (tsA z 42 (cnt s2 35) (tI s2 22)) 22 = tI z 22 from rfl, n22, e22, e1, z22]; rfl
    have hc4 := e4 (fun h15 => fX8_privileged_69 (cC (dc + 31)) (.ref r) (.ref (cNx c2)) h15)
    rw [hlu] at hc4 hl4
    refine (congrArg (fun z => PX χ n t r f p vo Op Oa Ou E O c s H D z _) hc4).mpr ?_
    rw [show tI (tsA z 42 (cnt s2 35) (tI s2 22)) 22 = tI z 22 from rfl] at *
    rw [r_tpI, n22, e22, e8', qs_23 (by omega)]
    rw [n22, e22] at hli
    rw [hli]
    have hlw4 : lid c4 (r + 8) (cnt s2 64) = lid c3 (r + 8) (cnt s2 64) := hKC4.2.2.2.2.2.2.2.2 _ (by rw [RP_len hR3']; omega)
    have hw63 : cCl c3 (lid c3 (r + 8) (cnt s2 64) + 5) = 6617 := (RUt_cap hR3'.2.2.2.1.2.2.2.2.2.1 (show cnt s2 64 < _ by rw [c35n]; omega)).2.2.1
    have hl34 : cLs c4 (lid c3 (r + 8) (cnt s2 64) + 5) = cLs c3 (lid c3 (r + 8) (cnt s2 64) + 5) := hls4 _ (by rw [hw63]; decide) (fun q => by have := RSt_lL hR3'.2.2.2.1.1; rw [← q, hw63] at this; exact absurd this (by decide))
    have m42 : tA (liT z (cnt s2 35) (cnt z 22)) 42 (cnt s2 35) = Int32.ofNat (cnt s2 22) := by rw [z22]; simp [liT, gT]
    have m22 : cnt (liT z (cnt s2 35) (cnt z 22)) 22 = cnt s2 22 + 1 := cnt_of (show tI (liT z (cnt s2 35) (cnt z 22)) 22 = _ by rw [z22]; simp [liT, gT]) (by omega)
    have hv4 : limV r c4 (liT z (cnt s2 35) (cnt z 22)) (cnt s2 35) (cnt s2 64) (cnt s2 65) (cnt s2 22) (cNx c2) L := by
      rw [z22] at hl4 hL4 hun4
      refine ⟨UN_st hB4'.1 hKC4 hKT4 hUN4, hl4, hL4, fun k hk hne => hun4 k (by omega), by omega, m42, ?_, ?_, ?_⟩
      · rw [th_ca hth4 (by decide)]; unfold ca; rw [n44]; rfl
      · rw [th_A hth4 (by decide)]; exact k68
      · rw [hlw4, hl34]
        intro i hi
        rw [lid_eq (show nthD .null (cLs c4 (lid c3 (r + 8) (cnt s2 64) + 5)) i = nthD .null (cLs c3 (lid c3 (r + 8) (cnt s2 64) + 5)) i by rw [hl34])]
        exact hins3 i hi
    have hB5 : BS χ n t r f vo Op Oa (fun k => Ou k ∨ k = cnt s2 35) E 60 O c s (cnt s2 65) 10 [] p2 f2 vo c4 (liT z (cnt s2 35) (cnt z 22)) := by
      refine BS_go (X' := 60) (vo' := vo) hz hB4' hR4 hKC4 hKT4 (fun _ _ => rfl) (fun y _ z' hz' _ => th_A hth4 (by simp only [List.mem_cons, List.not_mem_nil, or_false] at hz' ⊢; omega) y) (TH_refl _ _ _ _ s) (KS_trans hB4'.2.2.2.2.2.1 (KS_th hth4 (by decide))) (by omega) (by omega) hB4'.2.1.2.2.2.2.2.1 (fun b q => hraw4 b (hB4'.2.1.2.2.2.2.2.2 b q))
    refine lim_loop dc dt (f9 := f2) hz (fun c5 s5 p5 f5 hB5 hv5 y6 y7 y8 => ?_) n p2 f2 c4 _ (by omega) (Nat.le_refl _) hB5 hv4 (by rw [th_I hth4 (by decide), n8]; decide)
    have h645 : cnt s5 64 = cnt s2 64 := hB5.2.2.2.2.2.1.2.2.2.2.trans c64.symm
    obtain ⟨c6, e6, hR6, hKC6, hraw6, nx6, sl6, i0, hi0, hi1⟩ := P_ins (dc + 22) hB5.1 hv5 h645 hB5.2.2.2.2.1 (ca_of hB5.2.2.2.2.2.2.1 (by decide)) (by rw [ca_of hB5.2.2.2.2.2.2.2.1 (by omega), c64])
    have hc6 := e6 (fun h13 => fX8_privileged_92 (cC (dc + 31)) (.ref r) (.ref (cNx c2)) h13)
    refine (congrArg (fun z => PX χ n t r f p vo Op Oa Ou E O c s H D z _) hc6).mpr ?_
    rw [uX8_privileged_92]
    have hB6 : BS χ n t r f vo Op Oa (fun k => Ou k ∨ k = cnt s2 35) E 60 O c s (cnt s2 65) 10 [] p5 f5 vo c6 s5 := BS_go (X' := 60) (vo' := vo) hz hB5 hR6 hKC6 (KT_refl s5) (fun _ _ => rfl) (fun _ _ _ _ _ => rfl) (TH_refl _ _ _ _ s) hB5.2.2.2.2.2.1 (by omega) (by omega) hB5.2.1.2.2.2.2.2.1 (fun b q => hraw6 b (hB5.2.1.2.2.2.2.2.2 b q))
    obtain ⟨v1, v2, v3, v4, v5, v6, v7, v8, v9⟩ := id hv5
    have hUN6 := UN_st hB5.1 hKC6 (KT_refl s5) v1
    rw [c64] at hUN6 hi0 hi1
    refine B_body dc dt hR hB6 (hsub2 _) hlv hUN6 v7 (by decide) (fun _ => by rw [v6, ne_eq, ofNat_ne_m1 (by omega)]; exact id) c35 hH2 hD2 (fun s' q2 => ⟨_, _, rfl, rfl, rfl⟩) (fun a2 c7 s7 p7 f7 vo7 hB7 hp7 hf7 m8 m9 hK7 hT7 ho7 hUN7 hH1 => ?_)
    have hH := hH hH1
    rw [r_cnw]
    have hR7 := hB7.1
    have hn7 := hR7.2.2.1
    have ha7 : cCl c7 (cNx c7) = 0 := (hn7 _ (Nat.le_refl _)).1
    have hnw : cmore (csCl c7 (cNx c7) 24) (csz 24) = nwC c7 24 := rfl
    have e11 := c_iu (dc + 20) (c := nwC c7 24) (a := cNx c7) (v1 := .ref (cNx c2)) (v2 := .null) (nw_cl c7 24) rfl rfl
    have hfr : FR c7 (iuC (nwC c7 24) (cNx c7) (.ref (cNx c2)) .null) := FR_R ha7 (FR_R ha7 (FR_nw ha7 (FR_refl c7)))
    have hcl8 : CLN (iuC (nwC c7 24) (cNx c7) (.ref (cNx c2)) .null) := cC_cln e11 (P_new 24 hR7).2.2.1
    have hnx8 : cNx (iuC (nwC c7 24) (cNx c7) (.ref (cNx c2)) .null) = cNx c7 + 1 := rfl
    have hsl8 : cSl (iuC (nwC c7 24) (cNx c7) (.ref (cNx c2)) .null) = cSl c7 + csz 24 := rfl
    have hcz : csz 24 ≤ 10 := by decide
    have hR8 := RP_FR hfr (NF_nw (k := 24) (by decide) (NF_refl c7)) hcl8 hR7
    have hK8 := FR_kc hfr (NF_nw (k := 24) (by decide) (NF_refl c7)) hR7.2.2.2.1.1
    have g1 : cCl (iuC (nwC c7 24) (cNx c7) (.ref (cNx c2)) .null) (cNx c7) = 24 := nw_cl c7 24
    have g2 : cR (iuC (nwC c7 24) (cNx c7) (.ref (cNx c2)) .null) 2400 (cNx c7) = .ref (cNx c2) := by simp [iuC, gC]
    have g3 : cR (iuC (nwC c7 24) (cNx c7) (.ref (cNx c2)) .null) 2401 (cNx c7) = .null := by simp [iuC, gC]
    have hUN8 := UN_st hR7 hK8 (KT_refl s7) hUN7
    have k687 : tA s7 68 (cnt s2 65) = Int32.ofNat (cnt s2 35) := by rw [ho7 68 (by simp)]; exact v8
    rw [hnw, e11, b_V]
    obtain ⟨r1, r2, r3, r4, r5⟩ := BS_root hB7 (by decide)
    have hraw8 : ∀ b, raw c b → raw (iuC (nwC c7 24) (cNx c7) (.ref (cNx c2)) .null) b := fun b q => FR_raw hfr (NF_nw (k := 24) (by decide) (NF_refl c7)) b (hB7.2.1.2.2.2.2.2.2 b q)
    generalize iuC (nwC c7 24) (cNx c7) (.ref (cNx c2)) .null = c8 at *
    obtain ⟨u1, u2, u3, u4, u5, u6⟩ := hUN8
    have h607 : cnt s7 35 ≤ 60 := hR7.2.2.2.1.2.2.2.2.2.1.1.2
    have c68 := ca_of k687 (by omega)
    have hk70 : tA s7 70 (cnt s2 65) = -1 := hB7.2.2.2.2.2.2.2.2.2.1
    have hin : ∃ K i, lsr c8 (lid c8 (r + 8) (cnt s 64) + 5) K 16 ∧ i < K ∧ lid c8 (lid c8 (r + 8) (cnt s 64) + 5) i = lid c8 (r + 8) (cnt s2 35) := by
      have hw356 : cnt s 64 < cnt s5 35 := by have := v1.1; have := v1.2.2.1; omega
      have hU6 := hR6.2.2.2.1.2.2.2.2.2.1
      have hw66 := (RUt_cap hU6 hw356).2.2.1
      have q1 := (hK7.2.2.2.2.2.2.2.1).2.1 _ i0 (Or.inl hw66) hi0
      have l7 : lid c7 (r + 8) (cnt s 64) = lid c6 (r + 8) (cnt s 64) := hK7.2.2.2.2.2.2.2.2 _ (by rw [RP_len hR6]; exact hw356)
      have hw357 : cnt s 64 < cnt s7 35 := by omega
      have hw67 := (RUt_cap hR7.2.2.2.1.2.2.2.2.2.1 hw357).2.2.1
      have l8 : lid c8 (r + 8) (cnt s 64) = lid c7 (r + 8) (cnt s 64) := hK8.2.2.2.2.2.2.2.2 _ (by rw [RP_len hR7]; exact hw357)
      rw [l7] at hw67
      have q2 := (hK8.2.2.2.2.2.2.2.1).2.1 _ i0 (Or.inl hw67) q1.1
      obtain ⟨_, f2'⟩ := hR8.2.2.2.1.2.2.2.2.2.2.2.2.1
      obtain ⟨K2, e13, _⟩ := (f2' _ hw357).2.2.2.2.2.2.2.2.2.2
      refine ⟨K2, i0, e13, ?_, ?_⟩
      · have := e13.1
        rw [l8, l7] at this
        omega
      · rw [u5, l8, l7]
        have w1 := (q1.2 (by rw [hi1]; exact fun z => by cases z)).trans hi1
        exact lid_at ((q2.2 (by rw [w1]; exact fun z => by cases z)).trans w1)
    right
    refine ⟨cNx c7, cnt s2 65, c8, s7, p7, f7, rfl, rfl, BS_fin (g := 1) hz (by omega) hB7 ?_ hK8 (by omega) (by omega) hraw8 ?_⟩
    · rw [← Nat.add_assoc]
      exact P_close10 hR8 r5 k687 u1 (by rw [r3]; exact u2) (fun _ => by rw [r3]; exact hin)
    · refine Or.inr ⟨r1, r2, r3, r4, by omega, by omega, ?_⟩
      refine Or.inr (Or.inr (Or.inr (Or.inr (Or.inr (Or.inr (Or.inr (Or.inr (Or.inl ⟨g1, hH, by omega, aok_of k687 (by omega) (by omega), by rw [c68]; exact u1, by rw [c68, u5]; exact g2, by rw [c68, ca_of u2 (by omega)], by rw [c68, u2, ne_eq, ofNat_ne_m1 (by omega)]; exact id, ?_⟩))))))))
      exact Or.inr (Or.inl ⟨r5, Or.inr (by rw [c68]; exact u4), g3, hk70⟩)
  · left
    have em : cC (dc + 31) 803 [eR (.ref r), eI 0, eI 4] c2 = some (.inr (.ref (cNx c2)), wH c2 4 (cI c2 1005 (r + 16))) := (c_must (dc + 17) false 4 hS2.1 hS2.2.1 hw2 hl2).trans (if_neg (by decide))
    obtain ⟨_, _, _, z4, z5⟩ := lx_mis hR2.1 hR2.2.1 4 (by decide)
    rw [if_neg h12, uX8_privileged_38, em, b_Vx, if_pos (by rw [hcond]; omega), t_fails (dt + 29), b_V]
    have hthn2 := nu_th s2 (cnt s2 35) 2 (tA s2 37 (cnt s2 64)) (tI s2 64) (Int32.ofNat f) (tL s 12)
    have hthd2 := nd_th (nuT s2 (cnt s2 35) 2 (tA s2 37 (cnt s2 64)) (tI s2 64) (Int32.ofNat f) (tL s 12)) 10 (Int32.ofNat (cnt s2 35)) 0
    have n6 : tI (ndT (nuT s2 (cnt s2 35) 2 (tA s2 37 (cnt s2 64)) (tI s2 64) (Int32.ofNat f) (tL s 12)) 10 (Int32.ofNat (cnt s2 35)) 0) 6 = 0 := by rw [th_I hthd2 (by decide), th_I hthn2 (by decide)]; exact hR2.2.1
    have n9 : tI (ndT (nuT s2 (cnt s2 35) 2 (tA s2 37 (cnt s2 64)) (tI s2 64) (Int32.ofNat f) (tL s 12)) 10 (Int32.ofNat (cnt s2 35)) 0) 9 = tI s2 9 := by rw [th_I hthd2 (by decide), th_I hthn2 (by decide)]
    exact j_mis hR2 4 (by decide) (by omega) (by omega) (s1 := fH s2 4 (tI s2 9)) rfl (by rw [n9, (fH_6 n6).1]; exact z4.symm) (by rw [n9, (fH_6 n6).2]; exact ((fH_6 hR2.2.1).2).symm) ⟨z4, z5⟩
end
