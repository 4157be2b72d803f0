set_option maxRecDepth 100000
set_option maxHeartbeats 4000000
/-! D73: arguments -/
section
variable {χ : Nat → Int32} {n t r : Nat} {Op Oa Ou : Nat → Prop} {E O : Nat} {L : Nat}
variable {f0 p0 : Nat} {vo0 : Nat → Nat} {X N K : Nat} {c0 : cS} {s0 : tS} {vq : Nat → Nat} {Opq Oaq Ouq : Nat → Prop} {Eq' Oq' : Nat} {sq : tS} {Hq Dq : Nat} {kR : Value → cS → cRes} {kT : Int32 → tS → tR}
theorem F_args15 (d : Nat) (x k v : Int32) {s : tS} (h : tI s 6 ≠ 0) : fX7_arguments_15 (cT (d + 4)) x k v s = some (.inl (some (eI k)), s) := by
  rw [uX7_arguments_15]
  by_cases q : v = 0
  · rw [if_pos q, F_sign d _ h, b_V]
  · rw [if_neg q, F_fine (d + 3) h, b_I, if_pos rfl, F_sign d _ h, b_V]
/-- arguments behind the first one, or the first one -/
theorem givenL (dc dt : Nat) {H D lv fB pB' : Nat} {Ls : List cE} {cB : cS} {sB : tS}
    (hsub : SP χ n t r Oa Ou O lv H D (dc + 30) 813 (dt + 30) 40) (hlv : cnt s0 63 = lv) (hz : (cLs c0 (r + 8)).length = cnt s0 35) (h0 : cCl c0 L = 0) (hzB : (cLs cB (r + 8)).length = cnt sB 35) (hF : ∀ x, FH (kT x))
    (hB1 : cNx cB + 300 * (n - fB) ≤ cNx c0 + 300 * (n - f0)) (hB2 : cSl cB + 2000 * (n - fB) ≤ cSl c0 + 2000 * (n - f0))
    (hgo : ∀ es p' f' vo' c' s', BS χ n t r f0 vo0 Op Oa Ou E X O c0 s0 N K (Ls ++ es) p' f' vo' c' s' → (∀ e, e ∈ es → e.2.2.1 = H ∧ e.2.2.2.1 = D) → cCl c' L = 5891 → cLs c' L = (es.map Prod.fst).map .ref → unr c' L → es.length ≤ 3 → fB < f' → pB' ≤ f' → KC r cB c' → KT sB s' → (∀ b : Nat × List Value, b.1 ≠ L → raw cB b → raw c' b) → (∀ z, z ∈ [66, 67, 68, 69] → tA s' z N = tA sB z N) → cNx c' + 280 + 300 * (n - f') ≤ cNx cB + 300 * (n - fB) → cSl c' + 1900 + 2000 * (n - f') ≤ cSl cB + 2000 * (n - fB) →
      PX χ n t r f0 p0 vq Opq Oaq Ouq Eq' Oq' c0 sq Hq Dq (kR (.ref L) c') (kT (Int32.ofNat es.length) s')) :
    ∀ (m p f : Nat) (vo : Nat → Nat) (es : List cE) (c : cS) (s : tS), es.length + m = 3 → BS χ n t r f0 vo0 Op Oa Ou E X O c0 s0 N K (Ls ++ es) p f vo c s → (∀ e, e ∈ es → e.2.2.1 = H ∧ e.2.2.2.1 = D) → cCl c L = 5891 → cLs c L = (es.map Prod.fst).map .ref → unr c L →
      fB < f → pB' ≤ f → KC r cB c → KT sB s → (∀ b : Nat × List Value, b.1 ≠ L → raw cB b → raw c b) → (∀ z, z ∈ [66, 67, 68, 69] → tA s z N = tA sB z N) →
      cNx c + 290 + 300 * (n - f) ≤ cNx cB + es.length + 300 * (n - fB) → cSl c + 1980 + 2000 * (n - f) ≤ cSl cB + 20 * es.length + 2000 * (n - fB) →
      PX χ n t r f0 p0 vq Opq Oaq Ouq Eq' Oq' c0 sq Hq Dq (bR (fX8_given_17 (cC (dc + 30)) (.ref r) (.ref L) 1 c) kR) (bI (fX7_arguments_15 (cT (dt + 30)) (Int32.ofNat N) (Int32.ofNat es.length) 1 s) kT) := by
  intro m
  induction m with
  | zero =>
    intro p f vo es c s hm hB hHD e hl hu hfB hpB hKC hKT hraw hoN k1 k2
    have hR := hB.1
    have hlen : (cLs c L).length = 3 := by rw [hl, List.length_map, List.length_map]; omega
    have he3 : es.length = 3 := by omega
    have hw := hR.1.1.1.1
    have hwl := hR.1.1.2.2.2.2.1.1
    have hS := hR.2.2.2.1.1
    obtain ⟨z1, z2, z3, _, _⟩ := lx_mis hR.1 hR.2.1 1 (by decide)
    obtain ⟨_, _, _, z4, z5⟩ := lx_mis hR.1 hR.2.1 4 (by decide)
    left
    rw [uX8_given_17, if_neg (by decide), c_len (dc + 21) e rfl, b_I, hlen, if_pos (show Int32.ofNat 3 = (3 : Int32) from rfl), RP_800 hR, c_bEs (dc + 27) hS.1 hS.2.1 hR.1, b_I, uX7_arguments_15, if_neg (show ¬ ((1 : Int32) = 0) by decide), t_fine (dt + 29), b_I, hR.2.1, he3]
    simp only [decide_true, bi_t, e10, if_false]
    rw [if_pos (show Int32.ofNat 3 = (3 : Int32) from rfl), t_bEs (dt + 28), b_I]
    by_cases hb : bEs s = true
    · rw [hb, bi_t, if_neg (by decide), if_neg (by decide), c_throw (dc + 17) hw hwl 4, b_Rx, t_fails (dt + 28), b_V, b_I]
      obtain ⟨y, s'', g1, g2, g3⟩ := hF (Int32.ofNat 3) (fH s 4 (tI s 9)) (fH_ne (by decide))
      exact j_mis hR 4 (by decide) (by omega) (by omega) g1 g2 g3 ⟨z4, z5⟩
    · rw [Bool.not_eq_true] at hb
      rw [hb, bi_f, if_pos rfl, if_pos rfl, c_throw (dc + 17) hw hwl 1, b_Rx, t_misfit (dt + 28), b_V, b_I]
      obtain ⟨y, s'', g1, g2, g3⟩ := hF (Int32.ofNat 3) (fH s 1 (if tI s 8 = 0 then tI s 4 else tI s 9)) (fH_ne (by decide))
      exact j_mis hR 1 (by decide) (by omega) (by omega) g1 g2 g3 ⟨z2, z3⟩
  | succ m ih =>
    intro p f vo es c s hm hB hHD e hl hu hfB hpB hKC hKT hraw hoN k1 k2
    have hR := hB.1
    have hlen : (cLs c L).length = es.length := by rw [hl, List.length_map, List.length_map]
    have hw := hR.1.1.1.1
    have hS := hR.2.2.2.1.1
    have hne : ¬ (Int32.ofNat es.length = (3 : Int32)) := by
      rw [show (3 : Int32) = Int32.ofNat 3 from rfl, z_eq (by omega) (by omega)]; omega
    have hq := hB.2.1.2.2.2.1
    have hq2 := hB.2.1.2.2.2.2.1
    rw [uX8_given_17, if_neg (by decide), c_len (dc + 21) e rfl, b_I, hlen, if_neg hne, uX7_arguments_15, if_neg (show ¬ ((1 : Int32) = 0) by decide), t_fine (dt + 29), b_I, hR.2.1]
    simp only [decide_true, bi_t, e10, if_false]
    rw [if_neg hne, a_RR, a_II]
    simp only [a_RI, a_IV]
    have hl0 : (cLs cB (r + 8)).length ≤ (cLs c (r + 8)).length := by rw [hzB, RP_len hR]; exact hKT.1 35 (by simp)
    refine B_kid (dt + 28) hz hB (hsub _ _ _ _ _ _ _ (hB.2.2.2.2.2.1.2.2.2.1.trans hlv) hB.1) (fun s' q2 => ?_) (fun a y W vo' c3 s3 p3 f3 hB3 hp3 hf3 m6 m7 hK3 hT3 hv3 hr3 ho3 => ?_)
    · rw [a_II, F_isSign (dt + 28) _ q2, b_I, if_pos rfl, F_args15 (dt + 26) _ _ _ q2, b_I]
      exact hF _ s' q2
    have e3 : cCl c3 L = 5891 := kc_cl hK3 e (by decide)
    obtain ⟨hl3, hu3⟩ := raw_list1 (hr3 (L, cLs c L) (Or.inr ⟨Or.inr e, rfl, hu⟩)) e3
    obtain ⟨c4, e9, hB4, hK4, e4, hl4, hu4, n4, s4⟩ := BS_own1 (dc + 21) hz hB3 e3 hu3 (by rw [hl3, hlen]; omega) h0 (.ref a) (by omega) (by rw [hl3, hlen]; omega)
    obtain ⟨cx, ex, hLx⟩ := c_add (dc + 21) e3 rfl (by rw [hl3, hlen]; omega) (.ref a)
    have ecx : cx = c4 := by rw [e9] at ex; cases ex; rfl
    rw [ecx] at hLx
    rw [hl3, hlen] at s4
    rw [List.append_assoc] at hB4
    have hR4 := hB4.1
    have hw4 := hR4.1.1.1.1
    have hfi4 := hR4.2.1
    have hl4' : cLs c4 L = ((es ++ [(a, y, H, D, W)]).map Prod.fst).map .ref := by rw [hl4, hl3, hl]; simp
    have hraw4 : ∀ b : Nat × List Value, b.1 ≠ L → raw cB b → raw c4 b := fun b hb q => own_raw hLx hb (hr3 b (hraw b hb q))
    have hl1 : (cLs c (r + 8)).length ≤ (cLs c3 (r + 8)).length := by rw [RP_len hR, RP_len hB3.1]; exact hT3.1 35 (by simp)
    have hKC4 : KC r cB c4 := KC_trans hl0 hKC (KC_trans hl1 hK3 hK4)
    have hKT4 : KT sB s3 := KT_trans hKT hT3
    have hoN4 : ∀ z, z ∈ [66, 67, 68, 69] → tA s3 z N = tA sB z N := fun z hz' => (ho3 z hz').trans (hoN z hz')
    have hHD4 : ∀ e, e ∈ es ++ [(a, y, H, D, W)] → e.2.2.1 = H ∧ e.2.2.2.1 = D := fun e he => by
      rcases List.mem_append.1 he with q | q
      · exact hHD e q
      · rw [List.mem_singleton] at q; rw [q]; exact ⟨rfl, rfl⟩
    have hln4 : (es ++ [(a, y, H, D, W)]).length = es.length + 1 := by rw [List.length_append]; rfl
    rw [e9, b_I, RP_800 hR4, c_passE (dc + 16) 44 hw4, a_II, t_isSign (dt + 28)]
    simp only [lx_sgn hR4.1 (x := 44) (by decide), hfi4, true_and]
    have hz1 : Int32.ofNat es.length + (1 : Int32) = Int32.ofNat (es ++ [(a, y, H, D, W)]).length := by rw [hln4]; exact z_add es.length 1
    rw [hz1]
    generalize es ++ [(a, y, H, D, W)] = es4 at *
    by_cases hs : tI s3 8 = 5 ∧ tI s3 11 = 44
    · rw [if_pos hs, decide_eq_true hs, bi_t, b_I, if_neg (by decide), a_IV, a_IV]
      simp only [b_I]
      rw [a_RV]
      refine B_next (dc + 9) (dt + 10) hz hB4 (fun s' q2 => ?_) (fun c5 s5 p5 f5 hB5 hW5 hp5 m1 m2 hf5 hcr => ?_)
      · rw [F_args15 (dt + 26) _ _ _ q2, b_I]
        exact hF _ s' q2
      obtain ⟨m3, m4, m5⟩ := hcr (by rw [hs.1]; decide)
      have hST5 := (WK_ST hR4 hW5).1
      have hl5 := ST_len hR4 hW5.1 hST5
      have e5 : cCl c5 L = 5891 := kc_cl hST5.1 e4 (by decide)
      obtain ⟨l5, u5⟩ := raw_list1 (hST5.2.2.2.2.2.2 (L, cLs c4 L) (Or.inr ⟨Or.inr e4, rfl, hu4⟩)) e5
      exact ih p5 f5 vo' es4 c5 s5 (by omega) hB5 hHD4 e5 (l5.trans hl4') u5 (by omega) (by omega) (KC_trans (by rw [hzB, RP_len hR4]; exact hKT4.1 35 (by simp)) hKC4 hST5.1) (KT_trans hKT4 hST5.2.1) (fun b hb q => hST5.2.2.2.2.2.2 b (hraw4 b hb q)) (fun z hz' => (th_A hW5.2.2.2.1 (by simp) N).trans (hoN4 z hz')) (by omega) (by omega)
    · rw [if_neg hs, decide_eq_false hs, bi_f, b_I, b_I, if_pos rfl, uX8_given_17, if_pos rfl, RP_800 hR4, uX7_arguments_15, if_pos rfl, a_RV, a_IV]
      refine B_sign (dc + 8) (dt + 9) hz hB4 (lx_sgn hR4.1 (x := 41) (by decide)) (fun s' q2 => ?_) (fun c5 s5 p5 f5 hB5 hW5 hp5 m3 m4 m5 => ?_)
      · rw [b_I]
        exact hF _ s' q2
      have hST5 := (WK_ST hR4 hW5).1
      have e5 : cCl c5 L = 5891 := kc_cl hST5.1 e4 (by decide)
      obtain ⟨l5, u5⟩ := raw_list1 (hST5.2.2.2.2.2.2 (L, cLs c4 L) (Or.inr ⟨Or.inr e4, rfl, hu4⟩)) e5
      rw [b_R, b_I]
      exact hgo es4 p5 f5 vo' c5 s5 hB5 hHD4 e5 (l5.trans hl4') u5 (by omega) (by omega) (by omega) (KC_trans (by rw [hzB, RP_len hR4]; exact hKT4.1 35 (by simp)) hKC4 hST5.1) (KT_trans hKT4 hST5.2.1) (fun b hb q => hST5.2.2.2.2.2.2 b (hraw4 b hb q)) (fun z hz' => (th_A hW5.2.2.2.1 (by simp) N).trans (hoN4 z hz')) (by omega) (by omega)
end
section
variable {χ : Nat → Int32} {n t r : Nat} {Op Oa Ou : Nat → Prop} {E O : Nat}
variable {f0 p0 : Nat} {vo0 : Nat → Nat} {X N K : Nat} {c0 : cS} {s0 : tS} {vq : Nat → Nat} {Opq Oaq Ouq : Nat → Prop} {Eq' Oq' : Nat} {sq : tS} {Hq Dq : Nat} {kR : Value → cS → cRes} {kT : Int32 → tS → tR}
/-- arguments in brackets, at a node under way -/
theorem J_given (dc dt : Nat) {H D lv p f : Nat} {vo : Nat → Nat} {Ls : List cE} {c : cS} {s : tS} (hsub : SP χ n t r Oa Ou O lv H D (dc + 30) 813 (dt + 30) 40) (hlv : cnt s0 63 = lv) (hz : (cLs c0 (r + 8)).length = cnt s0 35) (hn0 : CLN c0) (hF : ∀ x, FH (kT x))
    (hB : BS χ n t r f0 vo0 Op Oa Ou E X O c0 s0 N K Ls p f vo c s) (hs : tI s 8 = 5 ∧ tI s 11 = 40)
    (hgo : ∀ L es p' f' vo' c' s', BS χ n t r f0 vo0 Op Oa Ou E X O c0 s0 N K (Ls ++ es) p' f' vo' c' s' → (∀ e, e ∈ es → e.2.2.1 = H ∧ e.2.2.2.1 = D) → cCl c' L = 5891 → cLs c' L = (es.map Prod.fst).map .ref → unr c' L → es.length ≤ 3 → f < f' → p ≤ f' → KC r c c' → KT s s' → (∀ b : Nat × List Value, raw c b → raw c' b) → (∀ z, z ∈ [66, 67, 68, 69] → tA s' z N = tA s z N) → cNx c' + 280 + 300 * (n - f') ≤ cNx c + 300 * (n - f) → cSl c' + 1900 + 2000 * (n - f') ≤ cSl c + 2000 * (n - f) → cCl c L = 0 →
      PX χ n t r f0 p0 vq Opq Oaq Ouq Eq' Oq' c0 sq Hq Dq (kR (.ref L) c') (kT (Int32.ofNat es.length) s')) :
    PX χ n t r f0 p0 vq Opq Oaq Ouq Eq' Oq' c0 sq Hq Dq (bR (cC (dc + 31) 838 [eR (.ref r)] c) kR) (bI (cT (dt + 31) 73 [eR (.ref 0), eI (Int32.ofNat N)] s) kT) := by
  have hR := hB.1
  have hS := hR.2.2.2.1.1
  obtain ⟨e1, hR1, hK1, hr1, cl1, ls1, u1, n1, s1⟩ := own_new1 (dc + 21) hR
  have hnw : cmore (csCl c (cNx c) 10891) (csz 10891) = nwC c 10891 := rfl
  have h0c : cCl c (cNx c) = 0 := (hR.2.2.1 _ (Nat.le_refl _)).1
  have h0 : cCl c0 (cNx c) = 0 := (hn0 _ hB.2.1.1.1).1
  have hfp : f ≤ p := hR.1.2.1
  have q1 := hB.2.1.2.2.2.1
  have q2 := hB.2.1.2.2.2.2.1
  have q3 : f0 ≤ f := hB.2.1.2.2.2.2.2.1
  rw [kX8_given, r_cck, if_pos hS.1, uX8_given, r_cnw, hnw, e1, b_V, RP_800 hR1, kX7_arguments, uX7_arguments, t_signE (dt + 26), if_pos ⟨hR.2.1, hs⟩, a_RV, a_VV, a_IV]
  simp only [b_V]
  generalize hL : cNx c = L at *
  generalize nlC c 5891 2 = c1 at *
  rcases P_next (dc + 10) (dt + 9) hR1 with hb | ⟨c2, s2, p2, f2, e5, e6, hW⟩
  · left
    obtain ⟨a9, c9, s9, k9, pl9, v1, v2, v3, v4, v5, v6, v7, v8⟩ := hb
    have hb9 : tI s9 6 ≠ 0 := by rw [v4]; exact v6
    obtain ⟨q, s'', g1, g2, g3⟩ := hF 0 s9 hb9
    refine ⟨a9, c9, q, s'', k9, pl9, ?_, ?_, v3, by rw [g2]; exact v4, by rw [g3]; exact v5, v6, by omega, by omega⟩
    · rw [v1]; rfl
    · rw [v2, b_V, a_II, F_isSign (dt + 28) _ hb9, b_I, if_pos rfl, F_args15 (dt + 26) _ _ _ hb9, b_I]; exact g1
  obtain ⟨hS2, hS2'⟩ := WK_ST hR1 hW
  obtain ⟨m1, m2, m3⟩ := hS2' (by rw [hs.1]; decide)
  have hth := hW.2.2.2.1
  have hl1 : (cLs c (r + 8)).length ≤ (cLs c1 (r + 8)).length := by rw [RP_len hR, RP_len hR1]; exact Nat.le_refl _
  have hK2 : KC r c c2 := KC_trans hl1 hK1 hS2.1
  have hB2 : BS χ n t r f0 vo0 Op Oa Ou E X O c0 s0 N K Ls p2 f2 vo c2 s2 := BS_go hz hB hW.1 hK2 hS2.2.1 (fun _ _ => rfl) (fun y _ z hz' _ => th_A hth (by simp) y) (TH_refl _ _ _ _ s0) (KS_trans hB.2.2.2.2.2.1 (KS_th hth (by decide))) (by omega) (by omega) (by omega) (fun b q => hS2.2.2.2.2.2.2 b (hr1 b (hB.2.1.2.2.2.2.2.2 b q)))
  have hr2 : ∀ b : Nat × List Value, raw c b → raw c2 b := fun b q => hS2.2.2.2.2.2.2 b (hr1 b q)
  have hp2 : p ≤ f2 := hW.2.1
  have e2 : cCl c2 L = 5891 := kc_cl hS2.1 cl1 (by decide)
  obtain ⟨l2, u2⟩ := raw_list1 (hS2.2.2.2.2.2.2 (L, []) (Or.inr ⟨Or.inr cl1, ls1, u1⟩)) e2
  have hR2 := hB2.1
  have hl2 : (cLs c (r + 8)).length ≤ (cLs c2 (r + 8)).length := by rw [RP_len hR, RP_len hR2]; exact hS2.2.1.1 35 (by simp)
  have hw2 := hR2.1.1.1.1
  have hfi2 := hR2.2.1
  have ho2 : ∀ z, z ∈ [66, 67, 68, 69] → tA s2 z N = tA s z N := fun z _ => th_A hth (by simp) N
  have hneL : ∀ b : Nat × List Value, raw c b → b.1 ≠ L := fun b q w => raw_cl0 q (by rw [w]; exact h0c)
  rw [e5, e6, b_V, b_V, RP_800 hR2, c_isSign (dc + 29) 41 hw2, b_I, a_II, t_isSign (dt + 28), b_I]
  simp only [lx_sgn hR2.1 (x := 41) (by decide), hfi2, true_and]
  by_cases hq : tI s2 8 = 5 ∧ tI s2 11 = 41
  · have e12 := (c_signE (dc + 15) 41 hw2 hR2.1.1.2.2.2.2.1.1).trans (if_pos (Eq.mpr (lx_sgn hR2.1 (x := 41) (by decide)) hq))
    rw [decide_eq_true hq, bi_t, if_neg (by decide), if_neg (by decide), uX8_given_17, if_pos rfl, RP_800 hR2, e12, a_VV, a_RV, a_IV]
    simp only [b_V, b_R, b_I]
    refine B_next (dc + 8) (dt + 10) hz hB2 (hF 0) (fun c5 s5 p5 f5 hB5 hW5 hp5 m4 m5 hf5 hcr => ?_)
    obtain ⟨m6, m7, m8⟩ := hcr (by rw [hq.1]; decide)
    have hST5 := (WK_ST hR2 hW5).1
    have e5 : cCl c5 L = 5891 := kc_cl hST5.1 e2 (by decide)
    obtain ⟨l5, u5⟩ := raw_list1 (hST5.2.2.2.2.2.2 (L, []) (Or.inr ⟨Or.inr e2, l2, u2⟩)) e5
    refine hgo L [] p5 f5 vo c5 s5 (by rw [List.append_nil]; exact hB5) (fun e he => by cases he) e5 l5 u5 (by decide) (by omega) (by omega) (KC_trans hl2 hK2 hST5.1) (KT_trans hS2.2.1 hST5.2.1) (fun b q => hST5.2.2.2.2.2.2 b (hr2 b q)) (fun z hz' => (th_A hW5.2.2.2.1 (by simp) N).trans (ho2 z hz')) (by omega) (by omega) h0c
  · rw [decide_eq_false hq, bi_f, if_pos rfl, if_pos rfl]
    exact givenL (cB := c) (sB := s) (fB := f) (pB' := p) dc dt hsub hlv hz h0 (RP_len hR) hF (by omega) q2 (fun es p' f' vo' c' s' a1 a2 a3 a4 a5 a6 a7 a8 a9 a10 a11 a12 a13 a14 => hgo L es p' f' vo' c' s' a1 a2 a3 a4 a5 a6 a7 a8 a9 a10 (fun b q => a11 b (hneL b q) q) a12 (by omega) a14 h0c) 3 p2 f2 vo [] c2 s2 rfl (by rw [List.append_nil]; exact hB2) (fun e he => by cases he) e2 l2 u2 (by omega) (by omega) hK2 hS2.2.1 (fun b _ q => hr2 b q) ho2 (by simp only [List.length_nil]; omega) (by simp only [List.length_nil]; omega)
end
