set_option maxRecDepth 100000
set_option maxHeartbeats 4000000
/-! D87: a right -/
section
variable {χ : Nat → Int32} {n w t m ks st p f r : Nat} {c : cS} {s : tS}
theorem CH_c1 {XI XL XR XC : List Nat} {c c' : cS} (h : CH XI XL XR [] c c') : CH XI XL XR XC c c' := by
  obtain ⟨h1, h2, h3, h4, h5, h6, h7, h8⟩ := h
  exact ⟨h1, h2, h3, h4, h5, fun a _ h0 => h6 a (by simp) h0, h7, h8⟩
theorem CH_c2 {XI XL XR XC : List Nat} {c c' : cS} (h : CH [] [] [] XC c c') : CH XI XL XR XC c c' := by
  obtain ⟨h1, h2, h3, h4, h5, h6, h7, h8⟩ := h
  exact ⟨h1, h2, fun x a _ => h3 x a (by simp), fun x a _ => h4 x a (by simp), fun x a _ => h5 x a (by simp), h6, h7, h8⟩
theorem c_rg (d : Nat) {a P : Nat} {b : Int64} (ha : cCl c a = 14) : cC (d + 11) 1401 [eR (.ref a), eL b, eR (.ref P)] c = some (.inl none, csR (csL c 1400 a b) 1401 a (.ref P)) := by
  rw [kX14_init, r_cck, if_pos ha, uX14_init]
  simp only [pP, ha, show misR (.ref P) = true from rfl, rC, bB, Nat.reduceDiv, Nat.reduceLeDiff, Nat.reduceLT,  eq_self, if_true, if_false, true_and, and_true, false_and, and_false, or_true, true_or, or_false, false_or, reduceIte, reduceCtorEq, Nat.reduceEqDiff, not_true_eq_false, not_false_eq_true, r_misN, r_misR, gC]
/-- what a right leaves -/
def riOK (χ : Nat → Int32) (n w t m ks st p f : Nat) (c : cS) (s : tS) (L of cl : Nat) (c' : cS) (s' : tS) (p' f' : Nat) : Prop :=
  LX χ n w t m ks st p' f' c' s' ∧ f + 2 ≤ f' ∧ p ≤ f' ∧ tI s' 6 = 0 ∧ tI s' 7 = tI s 7 ∧ CLN c' ∧ CH [1003, 1004, 1005, 1006] [1007] [1008] [cl] c c' ∧ TH [8, 9, 10, 11, 14, 15] [12] [18, 19, 23] [13, 17, 24] s s' ∧ rOK c' s' L of cl ∧ pEx (16 + (8 * of + ca s 23 of)) s s' ∧ (∀ k, k ≠ of → tA s' 23 k = tA s 23 k) ∧ (∀ j, j ≠ 8 * of + ca s 23 of → tB s' 24 j = tB s 24 j) ∧ ca s 23 of < 8 ∧
  cNx c' ≤ cNx c + 8 ∧ cSl c' ≤ cSl c + 60 ∧ cSl c ≤ cSl c' ∧ (∀ b, raw c b → raw c' b) ∧ (∀ a, cCl c a ≠ 0 → cCl c a ≠ 6009 → cAI c' a = cAI c a ∧ cAL c' a = cAL c a) ∧ (∀ b, b ≠ L → cCl c b ≠ 0 → cLs c' b = cLs c b)
theorem LF_A {c' : cS} (hl : LFc st c c') (hst : cCl c st = 6009) (hn : CLN c) : ∀ a, cCl c a ≠ 0 → cCl c a ≠ 6009 → cAI c' a = cAI c a ∧ cAL c' a = cAL c a := fun a h0 h9 => by
  obtain ⟨_, _, _, _, _, _, _, _, _, e, _, _, _, g, _⟩ := hl
  have ha : a < cNx c := CLN_lt hn h0
  exact ⟨by rw [e], funext fun j => (g a ha).2.2 (by rintro rfl; exact h9 hst) j⟩
theorem J_right (dc dt : Nat) {L of cl : Nat} (hof : of < 20) (hcl : okc cl = true) (hcl2 : cl ≠ 6200 ∧ cl ≠ 5890 ∧ cl ≠ 5891 ∧ cl ≠ 6009) (hk : cak cl = 9) (hr : cCl c r = 8) (hrw : cR c 800 r = .ref w) (hL : LX χ n w t m ks st p f c s) (hfi : tI s 6 = 0) (hn : CLN c) (hO : rOK c s L of cl) :
    (∃ a c' s' k pl, cC (dc + 22) 805 [eR (.ref r), eR (.ref L)] c = some (.inr (.ref a), c') ∧ cT (dt + 22) 28 [eR (.ref 0), eI (Int32.ofNat of)] s = some (.inl none, s') ∧ thr c' a k pl ∧ tI s' 6 = k ∧ tI s' 7 = pl ∧ k ≠ 0 ∧ cNx c' ≤ cNx c + 10 ∧ cSl c' ≤ cSl c + 60) ∨
    ∃ c' s' p' f', cC (dc + 22) 805 [eR (.ref r), eR (.ref L)] c = some (.inl none, c') ∧ cT (dt + 22) 28 [eR (.ref 0), eI (Int32.ofNat of)] s = some (.inl none, s') ∧ riOK χ n w t m ks st p f c s L of cl c' s' p' f' := by
  have hw := hL.1.1.1
  have hl := hL.1.2.2.2.2.1.1
  have e4 : cI c 1004 w = tI s 8 := hL.2.2.2.2.1
  have hst := hL.1.2.2.2.1.2.1
  obtain ⟨o1, o2, o3, o4⟩ := hO
  have h8' := o2.2
  have hlen := o3.1
  rw [kX8_right, r_cck, if_pos hr, uX8_right, c_name (dc + 6) hr hrw hw hl, e4, kX7_right, uX7_right, t_isName (dt + 18), if_pos hfi]
  by_cases h1 : tI s 8 = 1
  · have hab := (lw_1 hL.2.2.2.2.2 h1).2
    have hfp := (lw_1 hL.2.2.2.2.2 h1).1
    have e23 : tA s 23 of = Int32.ofNat (ca s 23 of) := o2.1
    rw [if_pos h1, if_pos h1, b_L, c_len (dc + 12) o1 hk, b_I, hlen, b_I, if_neg n10, q_23 hof, e23]
    by_cases h8 : ca s 23 of < 8
    · have em : cC (dc + 21) 803 [eR (.ref r), eI 1, eI 4] c = some (.inl none, c) := (c_must (dc + 7) true 4 hr hrw hw hl).trans (if_pos rfl)
      have e24 : (8 : Int32) * Int32.ofNat of + Int32.ofNat (ca s 23 of) = Int32.ofNat (8 * of + ca s 23 of) := by
        rw [show (8 : Int32) = Int32.ofNat 8 from rfl, z_mul, z_add]
      have e16 : (16 : Int32) + Int32.ofNat (8 * of + ca s 23 of) = Int32.ofNat (16 + (8 * of + ca s 23 of)) := by
        rw [show (16 : Int32) = Int32.ofNat 16 from rfl, z_add]
      rw [if_pos (by rw [show (8 : Int32) = Int32.ofNat 8 from rfl, z_lt (by omega) (by omega)]; exact h8), if_neg (by rw [show (8 : Int32) = Int32.ofNat 8 from rfl, z_eq (by omega) (by omega)]; omega), uX8_right_11, em, b_V, r_cgR, if_pos hr, hrw, q_23 hof, e23, e24, qs_24 (by omega)]
      have hth1 : TH [] [] [] [24] s (tsB s 24 (8 * of + ca s 23 of) (tL s 12)) := TH_B (by simp) (TH_refl _ _ _ _ s)
      have eB : ∀ j, tB (tsB s 24 (8 * of + ca s 23 of) (tL s 12)) 24 j = if j = 8 * of + ca s 23 of then tL s 12 else tB s 24 j := fun j => by
        rw [t_B_B]
        by_cases q : j = 8 * of + ca s 23 of
        · rw [if_pos ⟨rfl, q⟩, if_pos q]
        · rw [if_neg (fun z => q z.2), if_neg q]
      generalize hs1 : tsB s 24 (8 * of + ca s 23 of) (tL s 12) = s1 at *
      rcases J_next (dc + 1) (dt + 1) (LXb_s (s' := s1) (fun x _ => th_I hth1 (by simp)) (fun k => th_A hth1 (by simp) k) hL.1) ((th_I hth1 (by simp)).trans hfi) with hb | ⟨c2, s2, p2, f2, e5, e6, hX2, hp2, hfi2, h72, hF2, hG2, _⟩
      · left
        obtain ⟨a9, c9, s9, k9, pl9, v1, v2, v3, v4, v5, v6, v7, v8⟩ := hb
        rw [v1, v2, b_Vx, b_V, e16]
        have hb9 : tI s9 6 ≠ 0 := by rw [v4]; exact v6
        rw [F_pattern (dt + 19) _ _ hb9, b_V, q_23 hof, qs_23 hof]
        exact ⟨a9, c9, _, k9, pl9, rfl, rfl, v3, v4, v5, v6, by omega, by omega⟩
      have hch2 := CH_of_LF hF2 hn (by rw [hst]; decide)
      have hn2 : CLN c2 := cC_cln e5 hn
      have hth2 := TH_of_LF hG2
      have ha2 : cCl c2 (cNx c2) = 0 := (hn2 _ (Nat.le_refl _)).1
      have hnw : cmore (csCl c2 (cNx c2) 14) (csz 14) = nwC c2 14 := rfl
      have hchn := nw_ch hn2 14
      have hnn : CLN (nwC c2 14) := CLN_new hn2
      have hX2n : LX χ n w t m ks st p2 f2 (nwC c2 14) s2 := LX_ch hchn (TH_refl [] [] [] [] s2) rfl rfl (by decide) hX2
      have hrn : cCl (nwC c2 14) r = 8 := ch_cl hchn (ch_cl hch2 hr (by decide)) (by decide)
      have hrwn : cR (nwC c2 14) 800 r = .ref w := by
        have : cR c2 800 r = cR c 800 r := ch_R hch2 hr (by decide) (by decide)
        show cR c2 800 r = _
        rw [this]; exact hrw
      have z1 : cNx (nwC c2 14) = cNx c2 + 1 := rfl
      have z2 : cSl (nwC c2 14) = cSl c2 + 2 := rfl
      obtain ⟨y1, y2, y3, y4, _⟩ := id hF2
      rw [e5, e6, b_V, b_V, r_cnw, hnw, e16]
      rcases J_pat dc dt (q := 16 + (8 * of + ca s 23 of)) (by omega) hrn hrwn hX2n hfi2 with ⟨a9, c9, s9, k9, pl9, v1, v2, v3, v4, v5, v6, v7, v8⟩ | ⟨h48, P, c3, s3, p3, f3, e7, e8, l, tl, hok3, hP, hgs, hl5, htl, h14, h15, h13⟩
      · left
        rw [v1, v2, b_Rx, b_V, q_23 hof, qs_23 hof]
        exact ⟨a9, c9, _, k9, pl9, rfl, rfl, v3, v4, v5, v6, by omega, by omega⟩
      right
      obtain ⟨hX3, hp3, hfi3, h73, hF3, hG3, _⟩ := hok3
      have hm5 := hL.1.2.2.2.2.2.1.1
      have hlt2 := lw_lt hX2.2.2.2.2.2 (by rw [h48]; decide)
      have hstn : cCl (nwC c2 14) st = 6009 := ch_cl hchn (ch_cl hch2 hst (by decide)) (by decide)
      have hch3 := CH_of_LF hF3 hnn (by rw [hstn]; decide)
      have hn3 : CLN c3 := cC_cln e7 hnn
      have hth3 := TH_of_LF hG3
      have hkp := kp_th s2 (16 + (8 * of + ca s 23 of)) l.length
      have ha3 : cCl c3 (cNx c2) = 14 := ch_cl hch3 (nw_cl c2 14) (by decide)
      have e11 := c_rg (dc + 10) (a := cNx c2) (P := P) (b := cL c 1007 w) ha3
      have hn4 : CLN (csR (csL c3 1400 (cNx c2) (cL c 1007 w)) 1401 (cNx c2) (.ref P)) := cC_cln e11 hn3
      have hch03 : CH [1003, 1004, 1005, 1006] [1007] [1008] [] c c3 := CH_trans (by decide) hch2 (CH_trans (by decide) (CH_wk (by decide) hchn) hch3)
      have ha0 : cCl c (cNx c2) = 0 := (hn _ y1).1
      have hnl : ¬ live c (cNx c2) := fun q => q.1 ha0
      have hch04 : CH [1003, 1004, 1005, 1006] [1007] [1008] [] c (csR (csL c3 1400 (cNx c2) (cL c 1007 w)) 1401 (cNx c2) (.ref P)) := CH_R (Or.inr hnl) (CH_L (Or.inr hnl) hch03) (by decide)
      have hLe3 : cCl c3 L = cl := ch_cl hch03 o1 (okc_ne hcl).1
      have hLs3 : cLs c3 L = cLs c L := ch_Ls hch03 o1 hcl (by simp)
      obtain ⟨c5, e12, hLA⟩ := c_add (dc + 12) (c := csR (csL c3 1400 (cNx c2) (cL c 1007 w)) 1401 (cNx c2) (.ref P)) (a := L) (k := cl) hLe3 hk (by show (cLs c3 L).length < _; rw [hLs3, hlen]; omega) (.ref (cNx c2))
      have hn5 : CLN c5 := cC_cln e12 hn4
      obtain ⟨⟨x1, x2, x3, x4⟩, ⟨i1, i2, i3, i4, i5, i6, i7⟩, i8, i9⟩ := id hLA
      have hch45 := LA_ch hLA hLe3
      have hch05 : CH [1003, 1004, 1005, 1006] [1007] [1008] [cl] c c5 := CH_trans (by decide) (CH_c1 hch04) (CH_c2 hch45)
      rw [e7, b_R, e11, b_V, e12, b_I, e8, b_V, q_23 hof]
      have t3 : ∀ x, x ∉ [8, 9, 10, 11, 14, 15] → tI s3 x = tI s x := fun x hx => by
        rw [th_I hth3 hx, kp_I, th_I hth2 hx, th_I hth1 (by simp)]
      have a3 : ∀ x j, x ∉ [18, 19] → tA s3 x j = tA s x j := fun x j hx => by
        rw [th_A hth3 (by simp), th_A hkp hx, th_A hth2 (by simp), th_A hth1 (by simp)]
      have b3 : ∀ x j, x ∉ [13, 17, 24] → tB s3 x j = tB s x j := fun x j hx => by
        simp only [List.mem_cons, List.not_mem_nil, or_false, not_or] at hx
        rw [th_B hth3 (by simpa using hx.1), th_B hkp (by simpa using hx.2.1), th_B hth2 (by simpa using hx.1), th_B hth1 (by simpa using hx.2.2)]
      have b24 : ∀ j, tB s3 24 j = if j = 8 * of + ca s 23 of then tL s 12 else tB s 24 j := fun j => by
        rw [th_B hth3 (by decide), th_B hkp (by decide), th_B hth2 (by decide), eB]
      have e23' : tA s3 23 of = Int32.ofNat (ca s 23 of) := by rw [a3 23 of (by decide)]; exact e23
      have e1 : Int32.ofNat (ca s 23 of) + 1 = Int32.ofNat (ca s 23 of + 1) := by rw [show (1 : Int32) = Int32.ofNat 1 from rfl, z_add]
      have hL12 : tL s3 12 = tL s3 12 := rfl
      rw [e23', e1, qs_23 hof]
      have hth5 : TH [] [] [23] [] s3 (tsA s3 23 of (Int32.ofNat (ca s 23 of + 1))) := TH_A (by simp) (TH_refl _ _ _ _ s3)
      have n23 : tA (tsA s3 23 of (Int32.ofNat (ca s 23 of + 1))) 23 of = Int32.ofNat (ca s 23 of + 1) := by rw [t_A_A, if_pos ⟨rfl, rfl⟩]
      have o23 : ∀ k, k ≠ of → tA (tsA s3 23 of (Int32.ofNat (ca s 23 of + 1))) 23 k = tA s 23 k := fun k hk => by
        rw [t_A_A, if_neg (fun z => hk z.2), a3 23 k (by decide)]
      refine ⟨c5, _, p3, f3, rfl, rfl, ?_⟩
      generalize tsA s3 23 of (Int32.ofNat (ca s 23 of + 1)) = s5 at *
      have hX5 : LX χ n w t m ks st p3 f3 c5 s5 := LX_ch hch45 hth5 (congrFun i4 t) (congrFun i5 ks) (by decide) (LX_ch (CH_R (Or.inl (by simp)) (CH_L (Or.inl (by simp)) (CH_refl [] [1400] [1401] [] c3)) (by decide)) (TH_refl [] [] [] [] s3) rfl rfl (by decide) hX3)
      have hTH : TH [8, 9, 10, 11, 14, 15] [12] [18, 19, 23] [13, 17, 24] s s5 := by
        refine ⟨fun x hx => (th_I hth5 (by simp)).trans (t3 x hx), fun x hx => ?_, fun x j hx => ?_, fun x j hx => (th_B hth5 (by simp) j).trans (b3 x j hx)⟩
        · have := hth5.2.1 x (by simp)
          rw [this, hth3.2.1 x hx, kp_L, hth2.2.1 x hx, hth1.2.1 x (by simp)]
        · simp only [List.mem_cons, List.not_mem_nil, or_false, not_or] at hx
          rw [th_A hth5 (by simpa using hx.2.2), a3 x j (by simp [hx.1, hx.2.1])]
      have hpEx : pEx (16 + (8 * of + ca s 23 of)) s s5 := fun q hq => by
        obtain ⟨k1, k2, k3⟩ := kp_old s2 (q := 16 + (8 * of + ca s 23 of)) (n := l.length) hq (by omega)
        refine ⟨?_, ?_, fun i hi => ?_⟩
        · rw [th_A hth5 (by decide), th_A hth3 (by decide), k1, th_A hth2 (by decide), th_A hth1 (by decide)]
        · rw [th_A hth5 (by decide), th_A hth3 (by decide), k2, th_A hth2 (by decide), th_A hth1 (by decide)]
        · rw [th_B hth5 (by decide), th_B hth3 (by decide), k3 i hi, th_B hth2 (by decide), th_B hth1 (by decide)]
      have b24' : ∀ j, tB s5 24 j = if j = 8 * of + ca s 23 of then tL s 12 else tB s 24 j := fun j => (th_B hth5 (by decide) j).trans (b24 j)
      have hnfn : NF c2 (nwC c2 14) := NF_nw (k := 14) (by decide) (NF_refl c2)
      have hraw3 : ∀ b, raw c b → raw c3 b := fun b q => raw_LF hF3 hnn b (nw_raw hn2 14 b (raw_LF hF2 hn b q))
      have hraw5 : ∀ b, raw c b → raw c5 b := fun b q => LA_raw hLA hLe3 ⟨hcl2.2.1, hcl2.2.2.1⟩ b (raw_R ha0 (raw_L hraw3) (by decide) b q)
      have hP5 : PT c5 P l tl := by
        have h1 : PT (nwC c2 14) P l tl := hP
        have h2 := PT_fr hch3 (by decide) (by decide) h1
        have h3 : PT (csR (csL c3 1400 (cNx c2) (cL c 1007 w)) 1401 (cNx c2) (.ref P)) P l tl := PT_fr (CH_R (Or.inl (by simp)) (CH_L (Or.inl (by simp)) (CH_refl [] [1400] [1401] [] c3)) (by decide)) (by decide) (by decide) h2
        exact PT_fr hch45 (by decide) (by decide) h3
      have hpk : pOK c5 s5 P (16 + (8 * of + ca s 23 of)) := by
        obtain ⟨k1, k2, k3⟩ := kp_new s2 (16 + (8 * of + ca s 23 of)) l.length
        refine ⟨l, tl, hP5, hgs, by omega, htl, ?_, ?_, fun i hi => ?_⟩
        · rw [th_A hth5 (by decide), th_A hth3 (by decide), k1]; exact h14
        · rw [th_A hth5 (by decide), th_A hth3 (by decide), k2]; exact h15
        · rw [th_B hth5 (by decide), th_B hth3 (by decide), k3 i hi]; exact h13 i hi
      have c23 := ca_of n23 (by omega)
      have hlr : lsr c5 L (ca s 23 of + 1) 14 := by
        refine ⟨by rw [i8]; show ((cLs c3 L) ++ _).length = _; rw [List.length_append, hLs3, hlen]; rfl, fun i hi => ?_⟩
        by_cases ei : i = ca s 23 of
        · have lN : nthD .null (cLs c5 L) i = .ref (cNx c2) := by
            rw [i8]; show nthD .null ((cLs c3 L) ++ _) i = _
            rw [hLs3, ei, ← hlen]; exact lst_end _ _
          rw [lid_at lN, lN, i6]; exact ⟨rfl, ha3⟩
        · have lo : nthD .null (cLs c5 L) i = nthD .null (cLs c L) i := by
            rw [i8]; show nthD .null ((cLs c3 L) ++ _) i = _
            rw [hLs3]; exact lst_lt _ _ _ (by rw [hlen]; omega)
          obtain ⟨a1, a2⟩ := o3.2 i (by omega)
          rw [lid_eq lo, lo]
          exact ⟨a1, ch_cl hch05 a2 (by decide)⟩
      refine ⟨hX5, by omega, by omega, (th_I hth5 (by decide)).trans hfi3, (th_I hth5 (by decide)).trans (h73.trans (h72.trans (th_I hth1 (by decide)))), hn5, hch05, hTH, ⟨ch_cl hch05 o1 (okc_ne hcl).1, aok_of n23 (by omega) (by omega), by rw [c23]; exact hlr, fun i hi => ?_⟩, hpEx, o23, fun j hj => by rw [b24', if_neg hj], h8, ?_, ?_, ?_, hraw5, fun a h0 h9 => ?_, fun b hb h0 => (i9 b hb).trans (hch03.2.2.2.2.2.1 b (by simp) h0)⟩
      · rw [c23] at hi
        have heq5 : ∀ i, i < ca s 23 of → lid c5 L i = lid c L i := fun i hi => lid_eq (by
          rw [i8]; show nthD .null ((cLs c3 L) ++ _) i = _
          rw [hLs3]; exact lst_lt _ _ _ (by rw [hlen]; omega))
        by_cases ei : i = ca s 23 of
        · have lN : lid c5 L i = cNx c2 := lid_at (by
            rw [i8]; show nthD .null ((cLs c3 L) ++ _) i = _
            rw [hLs3, ei, ← hlen]; exact lst_end _ _)
          rw [lN, b24', if_pos (by rw [ei]), i2, i3, ei]
          refine ⟨?_, P, ?_, hpk⟩
          · show nm (cL (csR (csL c3 1400 (cNx c2) (cL c 1007 w)) 1401 (cNx c2) (.ref P)) 1400 (cNx c2)) _
            simp only [gC, and_self, if_true]
            exact hab
          · rw [g_R_R, if_pos ⟨rfl, rfl⟩]
        · obtain ⟨b1, P', b2, b3'⟩ := o4 i (by omega)
          have hc := (o3.2 i (by omega)).2
          rw [heq5 i (by omega), ch_L hch05 hc (by decide) (by decide), ch_R hch05 hc (by decide) (by decide), b24', if_neg (by omega)]
          exact ⟨b1, P', b2, pOK_ix hch05 (by decide) (by decide) (hpEx _ (by omega)) b3'⟩
      · obtain ⟨w1, w2, w3, w4, _⟩ := id hF3
        have : cNx (csR (csL c3 1400 (cNx c2) (cL c 1007 w)) 1401 (cNx c2) (.ref P)) = cNx c3 := rfl
        omega
      · obtain ⟨w1, w2, w3, w4, _⟩ := id hF3
        have h9 : cSl (csR (csL c3 1400 (cNx c2) (cL c 1007 w)) 1401 (cNx c2) (.ref P)) = cSl c3 := rfl
        have h10 : (cLs (csR (csL c3 1400 (cNx c2) (cL c 1007 w)) 1401 (cNx c2) (.ref P)) L).length = ca s 23 of := by show (cLs c3 L).length = _; rw [hLs3, hlen]
        omega
      · obtain ⟨w1, w2, w3, w4, _⟩ := id hF3
        have h9 : cSl (csR (csL c3 1400 (cNx c2) (cL c 1007 w)) 1401 (cNx c2) (.ref P)) = cSl c3 := rfl
        omega
      · obtain ⟨k1, k2⟩ := LF_A hF2 hst hn a h0 h9
        have h0' : cCl c2 a = cCl c a := (hch2.2.1 a h0).1
        have h0n : cCl (nwC c2 14) a = cCl c a := by rw [(hchn.2.1 a (by rw [h0']; exact h0)).1, h0']
        obtain ⟨k3, k4⟩ := LF_A hF3 hstn hnn a (by rw [h0n]; exact h0) (by rw [h0n]; exact h9)
        rw [i4, i5]
        exact ⟨k3.trans k1, k4.trans k2⟩
    · left
      have em : cC (dc + 21) 803 [eR (.ref r), eI 0, eI 4] c = some (.inr (.ref (cNx c)), wH c 4 (cI c 1005 w)) := (c_must (dc + 7) false 4 hr hrw hw hl).trans (if_neg (by decide))
      obtain ⟨z1, _, _, z4, z5⟩ := lx_mis hL hfi 4 (by decide)
      obtain ⟨n1, n2⟩ := wH_nx c 4 (cI c 1005 w)
      rw [if_neg (by rw [show (8 : Int32) = Int32.ofNat 8 from rfl, z_lt (by omega) (by omega)]; exact h8), uX8_right_11, em, b_Vx, if_pos (by rw [show (8 : Int32) = Int32.ofNat 8 from rfl, z_eq (by omega) (by omega)]; omega), t_fails (dt + 19), b_V]
      exact ⟨_, _, _, _, _, rfl, rfl, z1, z4, z5, by decide, by omega, by omega⟩
  · left
    obtain ⟨z1, z2, z3, _, _⟩ := lx_mis hL hfi 1 (by decide)
    obtain ⟨n1, n2⟩ := wH_nx c 1 (cI c 1005 w)
    rw [if_neg h1, if_neg h1, b_Lx, b_I, if_pos rfl]
    exact ⟨_, _, _, _, _, rfl, rfl, z1, z2, z3, by decide, by omega, by omega⟩
end
