set_option maxRecDepth 100000
set_option maxHeartbeats 4000000
/-! D69: a row -/
/-- the reference's row behind its first sign -/
noncomputable def rowR (d : Nat) (s : tS) : tR := bI (cT d 40 [eR (.ref 0)] s) fun v3 h2 => bI (cT d 27 [eR (.ref 0), eI 59] h2) fun v5 h4 => if v5 = 0 then bV (cT d 26 [eR (.ref 0), eI 125] h4) fun h9 => some (.inl (some (eI v3)), h9) else bI (cT d 47 [eR (.ref 0), eI 42, eI 0, eI 0] h4) fun v7 h6 => bV (cT d 49 [eR (.ref 0), eI v7, eI v3] h6) fun h8 => fX7_row_25 (cT d) v7 h8
theorem row_u (d : Nat) (s : tS) : fX7_row (cT d) s = bV (cT d 26 [eR (.ref 0), eI 123] s) (rowR d) := uX7_row _ _
theorem pt_nd (s : tS) (k a b : Int32) (N y : Nat) : ptT (gtT (ndT s k a b) N y []) = gtT (ndT (ptT s) k a b) N y [] := by
  have e : ∀ u v : Int32, tsI (tsI s 65 u) 62 v = tsI (tsI s 62 v) 65 u := fun u v => by
    unfold tsI
    refine Prod.ext (funext fun z => ?_) rfl
    show (if z = 62 then v else if z = 65 then u else _) = (if z = 65 then u else if z = 62 then v else _)
    by_cases q : z = 62
    · rw [if_pos q, if_neg (by omega), if_pos q]
    · rw [if_neg q]
      by_cases w : z = 65
      · rw [if_pos w, if_pos w]
      · rw [if_neg w, if_neg w, if_neg q]
  let F : tS → tS := fun z => tsA (tsA (tsA (tsA (tsA (tsA (tsA (tsA (tsA z 66 (cnt s 65) k) 67 (cnt s 65) (tI s 64)) 68 (cnt s 65) a) 69 (cnt s 65) b) 70 (cnt s 65) (-1)) 71 (cnt s 65) (-1)) 72 (cnt s 65) (-1)) 72 y (Int32.ofNat N)) 70 N (Int32.ofNat y)
  have h1 : ptT (gtT (ndT s k a b) N y []) = F (tsI (tsI s 65 (tI s 65 + 1)) 62 (tI s 62 + 1)) := rfl
  have h2 : gtT (ndT (ptT s) k a b) N y [] = F (tsI (tsI s 62 (tI s 62 + 1)) 65 (tI s 65 + 1)) := rfl
  rw [h1, h2, e]
theorem part_ahead (d : Nat) {s s' s2 : tS} {v : Int32} (hfi : tI s 6 = 0) (a6 : tI s2 6 = tI s 6) (a62 : tI s2 62 = tI s 62) (a9 : tI s2 9 = tI s 9) (a7 : tI s2 7 = tI s 7) (h : cT (d + 3) 46 [eR (.ref 0)] s = some (.inl (some (eI v)), s')) : ∃ s3, cT (d + 3) 46 [eR (.ref 0)] s2 = some (.inl (some (eI v)), s3) ∧ tI s3 6 = tI s' 6 ∧ tI s3 7 = tI s' 7 ∧ (v ≠ 0 → s3 = ptT s2) := by
  rw [t_counts, if_pos hfi] at h
  rw [t_counts, a6, if_pos hfi, a62, a9]
  by_cases q : tI s 62 = 400
  · rw [if_pos q] at h ⊢
    cases h
    refine ⟨_, rfl, ?_, ?_, fun w => absurd rfl w⟩
    · simp [fH, gT, a6, hfi]
    · simp [fH, gT, a6, hfi]
  · rw [if_neg q] at h ⊢
    cases h
    refine ⟨_, rfl, ?_, ?_, fun _ => by unfold ptT; rw [a62]⟩
    · simp [gT, a6]
    · simp [gT, a7]
section
variable {χ : Nat → Int32} {n t r : Nat} {Op Oa Ou : Nat → Prop} {E O : Nat}
variable {f0 p0 : Nat} {vo0 : Nat → Nat} {c0 : cS} {s0 : tS} {vq : Nat → Nat} {Opq Oaq Ouq : Nat → Prop} {Eq' Oq' : Nat} {sq : tS} {Hq Dq : Nat} {kC : Value → cS → cRes} {kT : Int32 → tS → tR}
/-- a row, behind its first sign; the base lies before that sign -/
theorem J_row (dc dt : Nat) {H D lv p f : Nat} {vo : Nat → Nat} {c : cS} {s : tS} (hH : 1 ≤ H) (hsub : SP χ n t r Oa Ou O lv H D (dc + 30) 813 (dt + 30) 40) (hlv : cnt s0 63 = lv) (hz : (cLs c0 (r + 8)).length = cnt s0 35) (hn0 : CLN c0) (hF : ∀ x, FH (kT x))
    (hR : RP χ n t r p f vo Op Oa Ou E O c s) (hST : ST n r f0 c0 s0 f c s) (hvo : ∀ v, v < cnt s0 50 → vo v = vo0 v) (hKS : KS s0 s) (hp : p0 ≤ f)
    (k1 : cNx c + 298 + 300 * (n - f) ≤ cNx c0 + 300 * (n - f0)) (k2 : cSl c + 1992 + 2000 * (n - f) ≤ cSl c0 + 2000 * (n - f0))
    (hgo : ∀ a x c' s' p' f', PXo χ n t r f0 p0 vo0 Op Oa Ou E O c0 s0 H D a x c' s' p' f' → PX χ n t r f0 p0 vq Opq Oaq Ouq Eq' Oq' c0 sq Hq Dq (kC (.ref a) c') (bV (cT (dt + 30) 26 [eR (.ref 0), eI 125] s') (kT (Int32.ofNat x)))) :
    PX χ n t r f0 p0 vq Opq Oaq Ouq Eq' Oq' c0 sq Hq Dq (bR (fX8_row (cC (dc + 30)) (.ref r) c) kC) (bI (rowR (dt + 30) s) kT) := by
  obtain ⟨e1, hR1, hK1, hr1, cl1, ls1, u1, n1, s1⟩ := own_new (dc + 21) hR
  have hnw : cmore (csCl c (cNx c) 10890) (csz 10890) = nwC c 10890 := rfl
  have h0 : cCl c0 (cNx c) = 0 := (hn0 _ hST.1.1).1
  have hl0 := ST_lz hz hR hST
  unfold rowR
  rw [uX8_row, r_cnw, hnw, e1, b_V, a_RR, a_II]
  generalize nlC c 5890 2 = c1 at *
  generalize cNx c = L at *
  have hz1 := RP_len hR1
  have hfp : f ≤ p := hR.1.2.1
  rcases hsub vo Op E p f c1 s (hKS.2.2.2.1.trans hlv) hR1 with hb | ⟨a1, y1, c3, s3, p3, f3, e7, e8, hX1⟩
  · left
    exact j_px hb (by omega) (by omega) (fun x s' q2 => by
      obtain ⟨q, s'', g1, g2, g3⟩ := hF x s' q2
      exact ⟨q, s'', by rw [F_isSign (dt + 28) _ q2, b_I, if_pos rfl, F_sign (dt + 26) _ q2, b_V, b_I]; exact g1, g2, g3⟩)
  have hX0 := PXo_base hz hz1 ⟨KC_trans hl0 hST.1 hK1, hST.2.1, hST.2.2.1, by omega, by omega, hST.2.2.2.2.2.1, fun b q => hr1 b (hST.2.2.2.2.2.2 b q)⟩ hvo hKS (show p0 ≤ p by omega) hX1
  obtain ⟨vo3, g3, W3, hR3, hST3, hvo3, hy0, hy1, hT3, h71, hKS3, hpf3⟩ := hX1
  have hraw03 : ∀ b, raw c0 b → raw c3 b := fun b q => hST3.2.2.2.2.2.2 b (hr1 b (hST.2.2.2.2.2.2 b q))
  have e3 : cCl c3 L = 5890 := kc_cl hST3.1 cl1 (by decide)
  obtain ⟨hl3, hu3⟩ := raw_list (hST3.2.2.2.2.2.2 (L, []) (Or.inr ⟨Or.inl cl1, ls1, u1⟩)) e3
  obtain ⟨c4, e9, hLA, hgo4, hK4, e4, hl4, hu4⟩ := own_add (dc + 21) hR3 e3 hu3 (by rw [hl3]; decide) (.ref a1)
  have n4 := hLA.1.2.1
  have s4 := hLA.1.2.2.2
  rw [hl3] at s4 hl4
  have hlen0 : ([] : List Value).length = 0 := rfl
  have m1 := hST3.2.2.2.1
  have m2 := hST3.2.2.2.2.1
  have hff : f ≤ f3 := hST3.2.2.2.2.2.1
  rw [e7, b_R, e9, b_I, e8, b_I]
  have hraw04 : ∀ b, raw c0 b → raw c4 b := fun b q => own_raw hLA (by rintro rfl; exact raw_cl0 q h0) (hraw03 b q)
  have hX4 := PXo_up (c' := c4) hz hX0 hgo4 hK4 (by omega) (by omega) hraw04 (fun g W q => ⟨g, q⟩)
  have hR4 := hgo4 _ _ _ _ _ _ _ _ hR3
  have hw := hR4.1.1.1.1
  have hS4 := hR4.2.2.2.1.1
  have hfi := hR4.2.1
  by_cases hs9 : ¬ (tI s3 8 = 5 ∧ tI s3 11 = 59)
  · have hs' : ¬ (tI s3 6 = 0 ∧ tI s3 8 = 5 ∧ tI s3 11 = 59) := fun q => hs9 q.2
    have hnw4 : cmore (csCl c4 (cNx c4) 27) (csz 27) = nwC c4 27 := rfl
    rw [uX8_row_10, r_cgR, if_pos hS4.1, hS4.2.1, c_isSign (dc + 29) 59 hw, t_isSign (dt + 28)]
    simp only [lx_sgn hR4.1 (x := 59) (by decide), hs9, hs', and_false, decide_false, bi_f, b_I, if_true]
    rw [r_cnw, hnw4, c_rw (dc + 19), b_V, b_R, a_IV]
    obtain ⟨w1, w2, w3, w4, w5, w6, w7, w8, w9⟩ := rw_facts dc hR4 e4
    exact hgo _ _ _ _ _ _ (PXo_up (c' := rwC c4 L) hz hX4 w1 w2 (by omega) (by omega) (fun b q => w3 b (by rintro rfl; exact raw_cl0 q h0) (hraw04 b q)) (fun g W q => ⟨g + 1, Or.inl ⟨w4, L, a1, w5, w6, by rw [w7, hl4]; rfl, q⟩⟩))
  have hs : tI s3 8 = 5 ∧ tI s3 11 = 59 := Decidable.not_not.1 hs9
  -- the reference's node, made before the part is counted
  have ok65 := hR4.2.2.2.1.2.1.2.2.2.2
  have ok62 := hR4.2.2.2.1.2.1.1.1.2
  have hN9 : cnt s3 65 < 900 := by have := ok65.2; omega
  have e47 := t_node (dt + 29) 42 0 0 ok65.1.1 hN9
  obtain ⟨d1, d2, d3, d4, d5, d6, d7⟩ := nd_new s3 42 0 0
  have hthd := nd_th s3 42 0 0
  have e49 := t_gets (dt + 28) (s := ndT s3 42 0 0) (x := cnt s3 65) (y := y1) (ys := []) (by rw [th_I hthd (by decide)]; exact hfi) hN9 (by omega) d5
  have hthg := gt_th (ndT s3 42 0 0) (cnt s3 65) y1 []
  have oI : ∀ x, x ≠ 65 → tI (gtT (ndT s3 42 0 0) (cnt s3 65) y1 []) x = tI s3 x := fun x hx => by rw [th_I hthg (by simp), th_I hthd (by simpa using hx)]
  have hpt := pt_nd s3 42 0 0 (cnt s3 65) y1
  have hs6 : tI (gtT (ndT s3 42 0 0) (cnt s3 65) y1 []) 6 = 0 ∧ tI (gtT (ndT s3 42 0 0) (cnt s3 65) y1 []) 8 = 5 ∧ tI (gtT (ndT s3 42 0 0) (cnt s3 65) y1 []) 11 = 59 := ⟨by rw [oI 6 (by decide)]; exact hfi, by rw [oI 8 (by decide)]; exact hs.1, by rw [oI 11 (by decide)]; exact hs.2⟩
  rw [uX8_row_10, r_cgR, if_pos hS4.1, hS4.2.1, c_isSign (dc + 29) 59 hw, t_isSign (dt + 28)]
  simp only [lx_sgn hR4.1 (x := 59) (by decide), hs.1, hs.2, hfi, and_self, decide_true, bi_t, e10, if_false, b_I]
  rw [e47, b_I, e49, b_V, uX7_row_25, t_isSign (dt + 28)]
  simp only [hs6, and_self, decide_true, bi_t, e10, if_false, b_I]
  rw [a_RV, a_If]
  rcases P_part (dc + 15) (dt + 27) hR4 with ⟨a9, c9, s9, k9, pl9, w1, w2, w3, w4, w5, w6, w7, w8⟩ | ⟨p1, p2, hRp, hSTp, hc62⟩
  · left
    obtain ⟨s10, x1, x2, x3, _⟩ := part_ahead (dt + 27) hfi (oI 6 (by decide)) (oI 62 (by decide)) (oI 9 (by decide)) (oI 7 (by decide)) w2
    have hb10 : tI s10 6 ≠ 0 := by rw [x2, w4]; exact w6
    obtain ⟨q, s'', q1, q2, q3⟩ := hF (Int32.ofNat (cnt s3 65)) s10 hb10
    rw [w1, b_Vx, x1, b_I, if_pos rfl, F_sign (dt + 26) _ hb10, b_V, b_I, q1]
    exact ⟨a9, c9, q, s'', k9, pl9, rfl, rfl, w3, by rw [q2, x2]; exact w4, by rw [q3, x3]; exact w5, w6, by omega, by omega⟩
  obtain ⟨s10, x1, x2, x3, x4⟩ := part_ahead (dt + 27) hfi (oI 6 (by decide)) (oI 62 (by decide)) (oI 9 (by decide)) (oI 7 (by decide)) p2
  have x5 := x4 (by decide)
  rw [p1, b_V, x1, b_I, if_neg (by decide), x5, hpt]
  obtain ⟨W, s5, vo5, g1, g2, g5, hB5, _, _⟩ := BS_adopt (dt + 29) (dt + 28) (p2 := p3) (f2 := f3) (c2 := ptC c4 r) (s2 := ptT s3) (K := 42) (k := 42) (u := 0) (v := 0) hz (by decide) rfl hX4 (fun W vo1 hRw _ => by
    rcases P_part (dc + 15) (dt + 27) hRw with ⟨a9, c9, s9, k9, pl9, w1, _⟩ | ⟨_, _, hRq, _⟩
    · rw [p1] at w1; cases w1
    · exact ⟨vo1, hRq, fun _ _ => rfl⟩) hSTp.1 hSTp.2.1 (fun q hq z hz' => hSTp.2.2.1 q hq z hz') rfl hc62 (KS_pt _) (by show cNx c4 + _ ≤ _; omega) (by show cSl c4 + _ ≤ _; omega) (Nat.le_refl _) (fun b q => q)
  have hS5 := hB5.1.2.2.2.1.1
  have en : ndT (ptT s3) (Int32.ofNat 42) 0 0 = ndT (ptT s3) 42 0 0 := rfl
  rw [en] at g5
  rw [← g5, r_cgR, if_pos hS5.1, hS5.2.1, a_RV, a_IV]
  have h8 : tI s5 8 ≠ 0 := by
    rw [g5, ← hpt]
    show tI (gtT (ndT s3 42 0 0) (cnt s3 65) y1 []) 8 ≠ 0
    rw [hs6.2.1]; decide
  have l5 : (cLs (ptC c4 r) L) = [.ref a1] := hl4
  refine row_more dc dt hsub hlv hz h0 hF hB5 h8 e4 (by rw [l5]; rfl) hu4 (by show 1 ≤ 401; decide) (by show cNx c4 + _ ≤ _; omega) (by show cSl c4 + _ ≤ _; omega) (fun a y W' vo' c6 s6 p6 f6 hf6 hB6 hp6 e6 hl6 hu6 j1 j2 => ?_)
  have hfp3 : f3 ≤ p3 := hR4.1.2.1
  refine rowL dc dt hH hsub hlv hz h0 hF hgo (n - f6) 60 p6 f6 vo' _ c6 s6 (Nat.le_refl _) (by omega) hB6 (fun e he => ?_) e6 hl6 hu6 (by show 2 ≤ 2; decide) (by show 60 * (2 - 1) ≤ 60; decide) j1 j2
  simp only [List.cons_append, List.nil_append, List.mem_cons, List.not_mem_nil, or_false] at he
  rcases he with rfl | rfl <;> exact ⟨rfl, rfl⟩
end
