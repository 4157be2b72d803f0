set_option maxRecDepth 100000
set_option maxHeartbeats 4000000
/-! D52: a let -/
theorem a_VI {X : Type} (r : mR X) (K : Int32 → X → mR X) (K2 : X → mR X) : bV (bI r K) K2 = bI r (fun v h => bV (K v h) K2) := by
  rcases r with _ | ⟨((_ | (a | a)) | a), h⟩ <;> rfl
theorem a_VV {X : Type} (r : mR X) (K : X → mR X) (K2 : X → mR X) : bV (bV r K) K2 = bV r (fun h => bV (K h) K2) := by
  rcases r with _ | ⟨((_ | (a | a)) | a), h⟩ <;> rfl
/-- a variable that was made, as it is seen from its unit -/
def UV (r : Nat) (c : cS) (s : tS) (u v o : Nat) : Prop := useOK r c s u v o ∧ cR c 1702 o = .null ∧ u < cnt s 35 ∧ tA s 51 v = Int32.ofNat u ∧ nm (cL c 1700 o) (tB s 52 v)
section
variable {χ : Nat → Int32} {n t r p f : Nat} {vo : Nat → Nat} {Op Oa Ou : Nat → Prop} {E O : Nat} {c c' : cS} {s s' : tS}
theorem UV_st {u v o : Nat} (hR : RP χ n t r p f vo Op Oa Ou E O c s) (hKC : KC r c c') (hKT : KT s s') (h : UV r c s u v o) : UV r c' s' u v o := by
  obtain ⟨h1, h2, h3, h4, h5⟩ := h
  have h60 := hR.2.2.2.1.2.2.2.2.2.1.1.2
  have hv := h1.2.2.1
  refine ⟨useOK_mono hKC hKT (RP_len hR) h3 (by rw [ca_of h4 (by omega)]; exact h3) h1, ?_, Nat.lt_of_lt_of_le h3 (hKT.1 35 (by simp)), ?_, ?_⟩
  · rw [kc_R hKC h1.1 (by decide) (by decide)]; exact h2
  · rw [(hKT.2.2.1 v hv).1]; exact h4
  · rw [kc_L hKC h1.1 (by decide) (by decide), (hKT.2.2.1 v hv).2.2.2]; exact h5
theorem lw_kw {k : Nat} (h : RP χ n t r p f vo Op Oa Ou E O c s) (h8 : tI s 8 = 2) (h11 : tI s 11 = Int32.ofNat k) (hk : k < 23) : p = f + (kwAt k).length := by
  obtain ⟨_, j, j1, j2, j3, j4⟩ := lw_2 h.1.2.2.2.2.2 h8
  rw [h11, z_eq (by omega) (by omega)] at j3
  rw [j4, ← j3]
def leC (c : cS) (a : Nat) (v1 v2 v3 : Value) : cS := csR (csR (csR c 1900 a v1) 1901 a v2) 1902 a v3
theorem c_le (d : Nat) {a : Nat} {v1 v2 v3 : Value} (ha : cCl c a = 19) (h1 : misR v1 = true) (h2 : misR v2 = true) (h3 : misR v3 = true) : cC (d + 11) 1900 [eR (.ref a), eR v1, eR v2, eR v3] c = some (.inl none, leC c a v1 v2 v3) := by
  rw [kX19_init, r_cck, if_pos ha, uX19_init, kX18_init, uX18_init]
  simp only [pP, ha, h1, h2, h3, rC, bB, Nat.reduceDiv, Nat.reduceLeDiff, Nat.reduceLT,  eq_self, if_true, if_false, true_and, and_true, false_and, and_false, or_true, true_or, or_false, false_or, reduceIte, reduceCtorEq, Nat.reduceEqDiff, not_true_eq_false, not_false_eq_true, r_misN, r_misR, gC]
  rfl
end
section
variable {χ : Nat → Int32} {n t r : Nat} {Oa Ou : Nat → Prop} {O : Nat}
/-- a variable is shown, at a node under way -/
theorem B_show (d : Nat) {f0 p f v o : Nat} {vo0 vo : Nat → Nat} {Op : Nat → Prop} {E X N K : Nat} {L : List cE} {c0 c : cS} {s0 s : tS} (hz : (cLs c0 (r + 8)).length = cnt s0 35) (hB : BS χ n t r f0 vo0 Op Oa Ou E X O c0 s0 N K L p f vo c s) (h0 : cok s0 56 12) (h12 : cnt s 56 < 12) (hU : UV r c s (cnt s0 64) v o) (hvo : vo v = o) (hpay : cSl c + 40 + 2000 * (n - f) ≤ cSl c0 + 2000 * (n - f0)) (hpay1 : cNx c + 1 + 300 * (n - f) ≤ cNx c0 + 300 * (n - f0)) :
    ∃ c', cC (d + 9) 9105 [eR (.ref (r + 15)), eR (.ref o)] c = some (.inl (some (eI 1)), c') ∧ BS χ n t r f0 vo0 Op Oa Ou E X O c0 (shT s0 v) N K L p f vo c' (shT s v) ∧ UV r c' (shT s v) (cnt s0 64) v o ∧ cNx c' ≤ cNx c + 1 ∧ cSl c' ≤ cSl c + 40 ∧ (∀ z, z ≠ 57 → ∀ y, tA (shT s v) z y = tA s z y) := by
  obtain ⟨u1, u2, u3, u4, u5⟩ := id hU
  have h64 : cnt s 64 = cnt s0 64 := hB.2.2.2.2.2.1.2.2.2.2
  have h60 := hB.1.2.2.2.1.2.2.2.2.2.1.1.2
  obtain ⟨c', e1, hLA, hR', hKC, hKT, e56, hsl⟩ := P_show d (v := v) hB.1 h12 u1.2.2.1 (by rw [h64, ca_of u4 (by omega)]; exact Or.inl rfl) (by rw [hvo]; exact u5)
  rw [hvo] at e1
  have hth : TH [56] [] [57] [] s (shT s v) := TH_I (by simp) (TH_A (by simp) (TH_refl _ _ _ _ s))
  have hth0 : TH [56] [] [57] [] s0 (shT s0 v) := TH_I (by simp) (TH_A (by simp) (TH_refl _ _ _ _ s0))
  have e560 : cnt (shT s0 v) 56 = cnt s0 56 + 1 := (cnt_up h0 (by decide)).1
  obtain ⟨k1, k2, k3, k4, k5⟩ := hB.2.2.2.2.2.1
  have e57 : ∀ (q : tS) i, tA (shT q v) 57 i = if i = cnt q 56 then Int32.ofNat v else tA q 57 i := fun q i => by
    show tA (tsA q 57 (cnt q 56) (Int32.ofNat v)) 57 i = _
    rw [t_A_A]
    by_cases w : i = cnt q 56
    · rw [if_pos ⟨rfl, w⟩, if_pos w]
    · rw [if_neg (fun z => w z.2), if_neg w]
  refine ⟨c', e1, BS_go hz hB hR' hKC hKT (fun _ _ => rfl) (fun y _ z hz' _ => th_A hth (by simp only [List.mem_cons, List.not_mem_nil, or_false] at hz' ⊢; omega) y) hth0 ⟨?_, ?_, fun i hi => ?_, ?_, ?_⟩ (by have := hLA.1.2.1; omega) (by omega) hB.2.1.2.2.2.2.2.1 (fun b q => LA_raw hLA (RSt_vL hB.1.2.2.2.1.1) (by decide) b (hB.2.1.2.2.2.2.2.2 b q)), UV_st hB.1 hKC hKT hU, hLA.1.2.1, hsl, fun z hz' y => th_A hth (by simpa using hz') y⟩
  · exact K1_trans (K1_th (th_sym hth0) (by decide)) (K1_trans k1 (K1_th hth (by decide)))
  · rw [e56, e560, k2]
  · rw [e560] at hi
    rw [e57, e57, k2]
    by_cases w : i = cnt s0 56
    · rw [if_pos w, if_pos w]
    · rw [if_neg w, if_neg w]; exact k3 i (by omega)
  · rw [th_cnt hth (by decide), th_cnt hth0 (by decide)]; exact k4
  · rw [th_cnt hth (by decide), th_cnt hth0 (by decide)]; exact k5
/-- and hidden again -/
theorem B_hide (d : Nat) {f0 p f v o : Nat} {vo0 vo : Nat → Nat} {Op : Nat → Prop} {E X N K : Nat} {L : List cE} {c0 c : cS} {s0 s : tS} (hz : (cLs c0 (r + 8)).length = cnt s0 35) (hB : BS χ n t r f0 vo0 Op Oa Ou E X O c0 (shT s0 v) N K L p f vo c s) (h0 : cok s0 56 12) (hU : UV r c s (cnt s0 64) v o) :
    ∃ c', (∀ (K : cS → cRes), (cgR c 805 (.ref r) fun v17 => bI (cC (d + 10) 9103 [eR v17] c) fun v19 h18 => bV (cC (d + 10) 820 [eR (.ref r), eI (v19 - 1)] h18) K) = K c') ∧ tI s 56 - 1 = Int32.ofNat (cnt s0 56) ∧ BS χ n t r f0 vo0 Op Oa Ou E X O c0 s0 N K L p f vo c' (tsI s 56 (Int32.ofNat (cnt s0 56))) ∧ KC r c c' ∧ KT s (tsI s 56 (Int32.ofNat (cnt s0 56))) ∧ cNx c' = cNx c ∧ cSl c' = cSl c := by
  have hth0 : TH [56] [] [57] [] s0 (shT s0 v) := TH_I (by simp) (TH_A (by simp) (TH_refl _ _ _ _ s0))
  have e560 : cnt (shT s0 v) 56 = cnt s0 56 + 1 := (cnt_up h0 (by decide)).1
  obtain ⟨k1, k2, k3, k4, k5⟩ := hB.2.2.2.2.2.1
  have hS := hB.1.2.2.2.1.1
  have hI := hB.1.2.2.2.1.2.2.2.2.2.2.2.1
  have hc := hI.2.2.1.1
  have hlen := hI.2.2.1.2.1
  have e56 : cnt s 56 = cnt s0 56 + 1 := k2.trans e560
  have eI56 : tI s 56 = Int32.ofNat (cnt s0 56 + 1) := by have := hc.1; rw [e56] at this; exact this
  have esub : Int32.ofNat (cnt s0 56 + 1) - 1 = Int32.ofNat (cnt s0 56) := by rw [show (1 : Int32) = Int32.ofNat 1 from rfl, z_sub (by omega)]; rfl
  obtain ⟨c', e1, hR', hKC, hKT, f56, nx, sl, hraw, _⟩ := P_hide d (m := cnt s0 56) hB.1 (by omega) (fun i hi hi2 => by
    have h5 := hB.1.2.2.2.1.2.2.2.2.2.2.1.1.2
    have hv := hU.1.2.2.1
    have hi3 : i = cnt s0 56 := by omega
    have e1 : tA s 57 i = Int32.ofNat v := by
      rw [k3 i (by omega), hi3]
      show tA (tsA s0 57 (cnt s0 56) (Int32.ofNat v)) 57 (cnt s0 56) = _
      rw [t_A_A, if_pos ⟨rfl, rfl⟩]
    have h6 := hB.1.2.2.2.1.2.2.2.2.2.1.1.2
    have h7 := hU.2.2.1
    rw [ca_of e1 (by omega), ca_of hU.2.2.2.1 (by omega), k5, th_cnt hth0 (by decide)]
    exact Nat.le_refl _)
  have hth : TH [56] [] [] [] s (tsI s 56 (Int32.ofNat (cnt s0 56))) := TH_I (by simp) (TH_refl _ _ _ _ s)
  have o57 : ∀ i, i < cnt s0 56 → tA (shT s0 v) 57 i = tA s0 57 i := fun i hi => by
    show tA (tsA s0 57 (cnt s0 56) (Int32.ofNat v)) 57 i = _
    rw [t_A_A, if_neg (by omega)]
  refine ⟨c', fun K => ?_, by rw [eI56, esub], BS_go (by rw [th_cnt hth0 (by decide)]; exact hz) hB hR' hKC hKT (fun _ _ => rfl) (fun y _ z _ _ => rfl) (th_sym hth0) ⟨?_, f56, fun i hi => ?_, ?_, ?_⟩ (by rw [nx]; exact hB.2.1.2.2.2.1) (by rw [sl]; exact hB.2.1.2.2.2.2.1) hB.2.1.2.2.2.2.2.1 (fun b q => hraw b (hB.2.1.2.2.2.2.2.2 b q)), hKC, hKT, nx, sl⟩
  · rw [r_cgR, if_pos hS.1, hS.2.2.2.1, c_len (d + 1) (RSt_vL hS) rfl, b_I, hlen, e56, esub, e1, b_V]
  · exact K1_trans (K1_th hth0 (by decide)) (K1_trans k1 (K1_th hth (by decide)))
  · show tA s 57 i = _
    rw [k3 i (by omega), o57 i hi]
  · rw [th_cnt hth (by decide), k4, th_cnt hth0 (by decide)]
  · rw [th_cnt hth (by decide), k5, th_cnt hth0 (by decide)]
theorem S_let (dc dt : Nat) {H D lv : Nat} (hn13 : n ≤ 1280) (hH : 1 ≤ H) (hO : O + 4 ≤ 4 * lv) (hsub1 : SP χ n t r Oa Ou (O + 2) lv H D (dc + 30) 813 (dt + 30) 40) (hsub2 : SP χ n t r Oa Ou O lv H D (dc + 30) 813 (dt + 29) 40) (vo : Nat → Nat) (Op : Nat → Prop) (E p f : Nat) (c : cS) (s : tS) (hlv : cnt s 63 = lv) (hR : RP χ n t r p f vo Op Oa Ou E O c s) (h8 : tI s 8 = 2) (h11 : tI s 11 = 3) :
    PX χ n t r f p vo Op Oa Ou E O c s H D (cC (dc + 31) 817 [eR (.ref r)] c) (cT (dt + 31) 45 [eR (.ref 0)] s) := by
  have hz := RP_len hR
  have hp : p = f + 3 := lw_kw (k := 3) hR h8 h11 (by decide)
  have hc56 := hR.2.2.2.1.2.2.2.2.2.2.2.1.2.2.1.1
  rw [kX8_let, r_cck, if_pos hR.2.2.2.1.1.1, uX8_let, kX7_letE, uX7_letE]
  refine B_begin (dc + 15) (dt + 27) (dt + 29) (K := 40) (by decide) rfl hR (fun s1 hB1 _ _ hth1 => ?_)
  have hI1 := hB1.1.2.2.2.1.2.2.2.2.2.2.2.1
  have h64 : tI s1 64 = Int32.ofNat (cnt s1 64) := hI1.1.1.1
  have hu60 : cnt s1 64 < 60 := by have := hI1.1.1.2; omega
  have hN9 : cnt s 65 < 900 := by have := hB1.2.2.2.2.1; have := hB1.1.2.2.2.1.2.1.2.2.2.2.1.2; omega
  generalize hNd : cnt s 65 = N at hB1 hN9 ⊢
  have hnp : cNx (ptC c r) = cNx c := rfl
  have hnp2 : cSl (ptC c r) = cSl c := rfl
  rw [RP_800 hB1.1, h64, q_46 hu60, q_46 hu60, qs_46 hu60]
  refine B_next46 (dc + 10) (dt + 10) hz hB1 (fun s' q2 => ?_) (fun c2 s2 p2 f2 hB2 hW2 hA2 hp2 m1 m2 m3 m4 => ?_)
  · have q3 : tI (tsA s' 68 N (tI s' 73)) 6 ≠ 0 := q2
    rw [F_binds (dt + 26) _ q2, b_V, qs_68 hN9]
    simp only [F_sign (dt + 26) _ q3, F_e (dt + 26) q3, F_gets (dt + 28) _ _ q3, F_key (dt + 26) _ q3, F_around (dt + 28) _ _ q3, b_V, b_I]
    exact ⟨_, _, rfl, rfl, rfl⟩
  have hth2 := hW2.2.2.2.1
  have e64 : cnt s1 64 = cnt s2 64 := (th_cnt hth2 (by decide)).symm
  have htok1 : tI s1 8 ≠ 0 := by rw [th_I hth1 (by decide), h8]; decide
  obtain ⟨m5, m6, m7⟩ := m4 htok1
  have hth12 : TH [8, 9, 10, 11, 14, 15, 62, 65] [12] [66, 67, 68, 69, 70, 71, 72] [13] s s2 := TH_trans (TH_wk (by decide) hth1) (TH_wk (by decide) hth2)
  have hlv2 : cnt s2 63 = lv := by rw [th_cnt hth12 (by decide)]; exact hlv
  rw [e64, ← hA2]
  refine B_bind (dc + 8) (dt + 9) (O1 := O + 3) (ff := f) hn13 hz hB2 (RNt_fr hth12 (by decide) hR.2.2.2.2.1) (by omega) (by rw [hlv2]; omega) (fun s' q2 => ?_) (fun c3 s3 p3 f3 vo3 o hB3 c50 hvo3 hus h1702 h51 hnm h73 hp3 hlt3 m8 m9 ho3 h12 h56 => ?_)
  · have q3 : tI (tsA s' 68 N (tI s' 73)) 6 ≠ 0 := q2
    rw [qs_68 hN9]
    simp only [F_sign (dt + 26) _ q3, F_e (dt + 26) q3, F_gets (dt + 28) _ _ q3, F_key (dt + 26) _ q3, F_around (dt + 28) _ _ q3, b_V, b_I]
    exact ⟨_, _, rfl, rfl, rfl⟩
  rw [RP_800 hB3.1, qs_68 hN9, h73]
  have hB4 := BS_w (v := Int32.ofNat (cnt s2 50)) (Or.inl rfl) hz hB3 (by decide) (by decide)
  have k68 : tA (tsA s3 68 N (Int32.ofNat (cnt s2 50))) 68 N = Int32.ofNat (cnt s2 50) := by rw [t_A_A, if_pos ⟨rfl, rfl⟩]
  have hth4 : TH [] [] [68] [] s3 (tsA s3 68 N (Int32.ofNat (cnt s2 50))) := TH_A (by simp) (TH_refl _ _ _ _ s3)
  have hcu := hB3.1.2.2.2.1.2.2.2.2.2.2.2.1.1
  have h643 : cnt s3 64 = cnt s 64 := hB3.2.2.2.2.2.1.2.2.2.2
  have hUV3 : UV r c3 s3 (cnt s 64) (cnt s2 50) o := ⟨hus, h1702, by rw [← h643]; exact hcu.2.1, h51, hnm⟩
  have hUV4 := UV_st hB3.1 (KC_refl r c3) (KT_of hth4 (by decide)) hUV3
  have h564 : cnt (tsA s3 68 N (Int32.ofNat (cnt s2 50))) 56 = cnt s3 56 := rfl
  have h504 : cnt (tsA s3 68 N (Int32.ofNat (cnt s2 50))) 50 = cnt s3 50 := rfl
  have h634 : cnt (tsA s3 68 N (Int32.ofNat (cnt s2 50))) 63 = cnt s3 63 := rfl
  generalize tsA s3 68 N (Int32.ofNat (cnt s2 50)) = s4 at hB4 k68 hUV4 h564 h504 h634 ⊢
  refine B_sign (dc + 8) (dt + 9) hz hB4 (lx_sgn hB4.1.1 (x := 61) (by decide)) (fun s' q2 => ?_) (fun c5 s5 p5 f5 hB5 hW5 hp5 hlt5 m10 m11 => ?_)
  · simp only [F_e (dt + 26) q2, F_gets (dt + 28) _ _ q2, F_key (dt + 26) _ q2, F_around (dt + 28) _ _ q2, b_V, b_I]
    exact ⟨_, _, rfl, rfl, rfl⟩
  have hth5 := hW5.2.2.2.1
  have hS5 := (WK_ST hB4.1 hW5).1
  have hUV5 := UV_st hB4.1 hS5.1 hS5.2.1 hUV4
  have hB5' := BS_debt hB5 (O' := O + 2) (RNt_pay (O' := O + 2) (f' := f5) hB4.1.2.2.2.2.1 (by omega) (by omega) hth5)
  have hlv5 : cnt s5 63 = lv := by rw [hB5.2.2.2.2.2.1.2.2.2.1]; exact hlv
  refine B_kid (dt + 28) hz hB5' (hsub1 _ _ _ _ _ _ _ hlv5 hB5'.1) (fun s' q2 => ?_) (fun a1 y1 W1 vo6 c6 s6 p6 f6 hB6 hp6 hf6 m12 m13 hK6 hT6 hv6 hr6 ho6 => ?_)
  · simp only [F_key (dt + 26) _ q2, F_around (dt + 28) _ _ q2, b_V]
    exact ⟨_, _, rfl, rfl, rfl⟩
  have hUV6 := UV_st hB5'.1 hK6 hT6 hUV5
  have h505 : cnt s5 50 = cnt s4 50 := th_cnt hth5 (by decide)
  have hvo6 : vo6 (cnt s2 50) = o := by rw [hv6 _ (by omega)]; exact hvo3
  rw [RP_800 hB6.1]
  refine B_key (dc + 8) (dt + 9) 4 hz hB6 (fun s' q2 => ?_) (fun c7 s7 p7 f7 hB7 hW7 hp7 hq7 hlt7 m14 m15 => ?_)
  · simp only [F_around (dt + 28) _ _ q2, b_V]
    exact ⟨_, _, rfl, rfl, rfl⟩
  have hp6' : p6 = f6 + 2 := lw_kw (k := 4) hB6.1 hq7.1 hq7.2 (by decide)
  have hth7 := hW7.2.2.2.1
  have hS7 := (WK_ST hB6.1 hW7).1
  have hUV7 := UV_st hB6.1 hS7.1 hS7.2.1 hUV6
  have hB7' := BS_debt hB7 (O' := O) (RNt_pay (O' := O) (f' := f7) hB6.1.2.2.2.2.1 (by omega) (by omega) hth7)
  have h567 : cnt s7 56 = cnt s 56 := hB7.2.2.2.2.2.1.2.1
  have h562 : cnt s2 56 = cnt s 56 := hB2.2.2.2.2.2.1.2.1
  have hS := hB7.1.2.2.2.1.1
  have hfi7 := hB7.1.2.1
  have ht56 : tI s7 56 = Int32.ofNat (cnt s7 56) := hB7.1.2.2.2.1.2.2.2.2.2.2.2.1.2.2.1.1.1
  obtain ⟨c8, e8, hB8, hUV8, nx8, sl8, o8⟩ := B_show (dc + 21) hz hB7' hc56 (by omega) hUV7 hvo6 (by omega) (by omega)
  have esh : tsI (tsA s7 57 (cnt s7 56) (Int32.ofNat (cnt s2 50))) 56 (tI (tsA s7 57 (cnt s7 56) (Int32.ofNat (cnt s2 50))) 56 + 1) = shT s7 (cnt s2 50) := rfl
  rw [r_cgR, if_pos hS.1, hS.2.2.2.1, e8, b_I, kX7_around, uX7_around, t_fine]
  simp only [hfi7, decide_true, bi_t, b_I, e10, if_false]
  rw [ht56, qs_57 (by omega), r_tpI, esh, a_VI]
  simp only [a_VV, r_tpI, b_V]
  have hz8 : (cLs c (r + 8)).length = cnt (shT s (cnt s2 50)) 35 := hz
  have hlv8 : cnt (shT s7 (cnt s2 50)) 63 = lv := by rw [hB8.2.2.2.2.2.1.2.2.2.1]; exact hlv
  refine B_kid (dt + 27) hz8 hB8 (hsub2 _ _ _ _ _ _ _ hlv8 hB8.1) (fun s' q2 => ⟨_, _, rfl, rfl, rfl⟩) (fun a2 y2 W2 vo9 c9 s9 p9 f9 hB9 hp9 hf9 m16 m17 hK9 hT9 hv9 hr9 ho9 => ?_)
  have hUV9 := UV_st hB8.1 hK9 hT9 hUV8
  obtain ⟨c10, e10', esub, hB10, hK10, hT10, nx10, sl10⟩ := B_hide (dc + 20) hz hB9 hc56 hUV9
  have hUV10 := UV_st hB9.1 hK10 hT10 hUV9
  rw [e10', esub, r_cnw]
  have hR10 := hB10.1
  have hn10 := hR10.2.2.1
  have ha10 : cCl c10 (cNx c10) = 0 := (hn10 _ (Nat.le_refl _)).1
  have hnl : ¬ live c10 (cNx c10) := fun q => q.1 ha10
  have ha0 : cCl c (cNx c10) = 0 := (hR.2.2.1 _ (by have := hB10.2.1.1.1; omega)).1
  have hnw : cmore (csCl c10 (cNx c10) 19) (csz 19) = nwC c10 19 := rfl
  have e11 := c_le (dc + 19) (c := nwC c10 19) (a := cNx c10) (v1 := .ref o) (v2 := .ref a1) (v3 := .ref a2) (nw_cl c10 19) rfl rfl rfl
  have hcl11 : CLN (leC (nwC c10 19) (cNx c10) (.ref o) (.ref a1) (.ref a2)) := cC_cln e11 (P_new 19 hR10).2.2.1
  have hch11 : CH [] [] [] [] c10 (leC (nwC c10 19) (cNx c10) (.ref o) (.ref a1) (.ref a2)) := CH_R (Or.inr hnl) (CH_R (Or.inr hnl) (CH_R (Or.inr hnl) (nw_ch hn10 19)))
  have hnx11 : cNx (leC (nwC c10 19) (cNx c10) (.ref o) (.ref a1) (.ref a2)) = cNx c10 + 1 := rfl
  have hsl11 : cSl (leC (nwC c10 19) (cNx c10) (.ref o) (.ref a1) (.ref a2)) = cSl c10 + csz 19 := rfl
  have hcz : csz 19 ≤ 10 := by decide
  have hR11 := RP_fr hch11 (TH_refl [] [] [] [] _) (fun _ _ _ => ⟨rfl, rfl⟩) hcl11 (by omega) (by decide) (by decide) (by simp) hR10
  have hK11 : KC r c10 (leC (nwC c10 19) (cNx c10) (.ref o) (.ref a1) (.ref a2)) := KC_R ha10 (KC_R ha10 (KC_R ha10 (KC_new hn10 hR10.2.2.2.1.1 19)))
  have hraw11 : ∀ b, raw c b → raw (leC (nwC c10 19) (cNx c10) (.ref o) (.ref a1) (.ref a2)) b := raw_R ha0 (raw_R ha0 (raw_R ha0 (fun b q => nw_raw hn10 19 b (hB10.2.1.2.2.2.2.2.2 b q))))
  have hUV11 := UV_st hB10.1 hK11 (KT_refl _) hUV10
  have g1 : cCl (leC (nwC c10 19) (cNx c10) (.ref o) (.ref a1) (.ref a2)) (cNx c10) = 19 := nw_cl c10 19
  have g2 : cR (leC (nwC c10 19) (cNx c10) (.ref o) (.ref a1) (.ref a2)) 1900 (cNx c10) = .ref o := by simp [leC, gC]
  have g3 : cR (leC (nwC c10 19) (cNx c10) (.ref o) (.ref a1) (.ref a2)) 1901 (cNx c10) = .ref a1 := by simp [leC, gC]
  have g4 : cR (leC (nwC c10 19) (cNx c10) (.ref o) (.ref a1) (.ref a2)) 1902 (cNx c10) = .ref a2 := by simp [leC, gC]
  have k6810 : tA (tsI s9 56 (Int32.ofNat (cnt s 56))) 68 N = Int32.ofNat (cnt s2 50) := by
    show tA s9 68 N = _
    rw [ho9 68 (by simp), o8 68 (by decide), th_A hth7 (by decide), ho6 68 (by simp), th_A hth5 (by decide)]; exact k68
  rw [hnw, e11, b_V]
  obtain ⟨g, hg⟩ := BS_kids hB10 hK11
  obtain ⟨r1, r2, r3, r4, r5⟩ := BS_root hB10 (by decide)
  generalize leC (nwC c10 19) (cNx c10) (.ref o) (.ref a1) (.ref a2) = c11 at *
  generalize tsI s9 56 (Int32.ofNat (cnt s 56)) = s10 at *
  have hch := L_chn (T := fun b y W => (cnt s 65 ≤ y ∧ y < cnt s10 65 ∧ y ≠ N) ∧ TR g (fun q => cnt s 65 ≤ q ∧ q < cnt s10 65 ∧ q ≠ N) r c11 s10 (cnt s 64) H D b y W) _ _ hB10.2.2.2.2.2.2.2.2.2.1 (fun e he => by
    obtain ⟨q1, q2, q3⟩ := hg e he
    have hHD : e.2.2.1 = H ∧ e.2.2.2.1 = D := by
      simp only [List.nil_append, List.cons_append, List.mem_cons, List.not_mem_nil, or_false] at he
      rcases he with rfl | rfl <;> exact ⟨rfl, rfl⟩
    rw [hHD.1, hHD.2] at q3
    exact ⟨q1, q3⟩)
  right
  refine ⟨cNx c10, N, c11, s10, p9, f9, rfl, rfl, BS_fin (g := g + 1) hz (by omega) hB10 ?_ hK11 (by omega) (by omega) hraw11 ?_⟩
  · rw [← Nat.add_assoc]
    exact P_close0 hR11 (by rw [r5]; decide)
  · refine Or.inr ⟨r1, r2, r3, r4, hH, by omega, ?_⟩
    exact Or.inr (Or.inr (Or.inr (Or.inr (Or.inr (Or.inr (Or.inr (Or.inr (Or.inr (Or.inl ⟨g1, r5, o, cnt s2 50, a1, a2, _, g2, hUV11.2.1, k6810, hUV11.1, g3, g4, hch, by omega⟩)))))))))
end
