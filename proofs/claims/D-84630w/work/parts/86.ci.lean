set_option maxRecDepth 100000
set_option maxHeartbeats 4000000
/-! D36: an if -/
section
variable {χ : Nat → Int32} {n t r : Nat} {Oa Ou : Nat → Prop} {O : Nat}
theorem pB_lx {f f1 : Nat} {c c1 : cS} {rc rc' : cRes} {rt rt' : tR} (h : lxBad rc rt c1) (h1 : cNx c1 + 300 * (n - f1) ≤ cNx c + 300 * (n - f)) (h2 : cSl c1 + 2000 * (n - f1) ≤ cSl c + 2000 * (n - f))
    (hc : ∀ a c', rc = some (.inr (.ref a), c') → rc' = some (.inr (.ref a), c')) (ht : ∀ s', rt = some (.inl none, s') → tI s' 6 ≠ 0 → ∃ q' s'', rt' = some (.inl (some (eI q')), s'') ∧ tI s'' 6 = tI s' 6 ∧ tI s'' 7 = tI s' 7) : pB n f c rc' rt' := by
  obtain ⟨a9, c9, s9, k9, pl9, w1, w2, w3, w4, w5, w6, w7, w8⟩ := h
  obtain ⟨q', s'', g1, g2, g3⟩ := ht s9 w2 (by rw [w4]; exact w6)
  exact ⟨a9, c9, q', s'', k9, pl9, hc a9 c9 w1, g1, w3, by rw [g2]; exact w4, by rw [g3]; exact w5, w6, by omega, by omega⟩
/-- the component goes on, the reference over words at most -/
theorem BS_gen {f0 p f p' f' : Nat} {vo0 vo : Nat → Nat} {Op : Nat → Prop} {E X N K : Nat} {L : List cE} {c0 c c' : cS} {s0 s s' : tS} (hz : (cLs c0 (r + 8)).length = cnt s0 35) (h : BS χ n t r f0 vo0 Op Oa Ou E X O c0 s0 N K L p f vo c s) (hR' : RP χ n t r p' f' vo (fun y => Op y ∨ y = N) Oa Ou (E + X + sW L) O c' s') (hKC : KC r c c') (hth : TH [8, 9, 10, 11, 14, 15] [12] [] [13] s s')
    (h1 : cNx c' + 300 * (n - f') ≤ cNx c + 300 * (n - f)) (h2 : cSl c' + 2000 * (n - f') ≤ cSl c + 2000 * (n - f)) (hff : f ≤ f') (hraw : ∀ b, raw c0 b → raw c' b) : BS χ n t r f0 vo0 Op Oa Ou E X O c0 s0 N K L p' f' vo c' s' := by
  obtain ⟨hR, hST, hvo, hN0, hN1, hKS, k66, k67, k71, hl, hnd, g, hg⟩ := h
  have o : ∀ z y, tA s' z y = tA s z y := fun z y => th_A hth (by simp) y
  have hu0 : cnt s0 64 < cnt s 35 := by
    rw [← hKS.2.2.2.2]
    exact hR.2.2.2.1.2.2.2.2.2.2.2.1.1.2.1
  refine ⟨hR', ⟨KC_trans (ST_lz hz hR hST) hST.1 hKC, KT_trans hST.2.1 (KT_of hth (by decide)), fun y hy z hz => by rw [o]; exact hST.2.2.1 y hy z hz, by have := hST.2.2.2.1; omega, by have := hST.2.2.2.2.1; omega, by have := hST.2.2.2.2.2.1; omega, hraw⟩, hvo, hN0, by rw [th_cnt hth (by decide)]; exact hN1, KS_trans hKS (KS_th hth (by decide)), by rw [o]; exact k66, by rw [o]; exact k67, by rw [o]; exact k71, by rw [o]; exact lnk_cg _ _ (fun y _ => o 71 y) hl, hnd, g, fun e he => ?_⟩
  obtain ⟨e1, e2, e3, e4, e5⟩ := hg e he
  refine ⟨e1, by rw [th_cnt hth (by decide)]; exact e2, e3, by rw [o]; exact e4, ?_⟩
  exact TR_mono hKC (KT_of hth (by decide)) (RP_len hR) (fun v hv => (hR.2.2.2.1.2.2.2.2.2.2.1.2.1 v hv).2.2.1) (fun q _ z _ => o z q) hu0 g _ _ _ _ _ (fun z _ => o z _) e5
/-- a choice is set up -/
def chC (c : cS) (a : Nat) (v1 v2 v3 : Value) : cS := csR (csR (csR c 2000 a v1) 2001 a v2) 2002 a v3
theorem c_ch (d : Nat) {c : cS} {a : Nat} {v1 v2 v3 : Value} (ha : cCl c a = 20) (h1 : misR v1 = true) (h2 : misR v2 = true) (h3 : misR v3 = true) : cC (d + 11) 2000 [eR (.ref a), eR v1, eR v2, eR v3] c = some (.inl none, chC c a v1 v2 v3) := by
  rw [kX20_init, r_cck, if_pos ha, uX20_init, kX18_init, uX18_init]
  simp only [pP, ha, h1, h2, h3, rC, bB, Nat.reduceDiv, Nat.reduceLeDiff, Nat.reduceLT,  eq_self, if_true, if_false, true_and, and_true, false_and, and_false, or_true, true_or, or_false, false_or, reduceIte, reduceCtorEq, Nat.reduceEqDiff, not_true_eq_false, not_false_eq_true, r_misN, r_misR, gC]
  rfl
theorem RP_800 {p f : Nat} {vo : Nat → Nat} {Op : Nat → Prop} {E : Nat} {c : cS} {s : tS} (h : RP χ n t r p f vo Op Oa Ou E O c s) (K : Value → cRes) : cgR c 800 (.ref r) K = K (.ref (r + 16)) := by
  rw [r_cgR, if_pos h.2.2.2.1.1.1, h.2.2.2.1.1.2.1]
theorem S_if (dc dt : Nat) {H D lv : Nat} (hH : 1 ≤ H) (hsub : SP χ n t r Oa Ou O lv H D (dc + 30) 813 (dt + 30) 40) (vo : Nat → Nat) (Op : Nat → Prop) (E p f : Nat) (c : cS) (s : tS) (hlv : cnt s 63 = lv) (hR : RP χ n t r p f vo Op Oa Ou E O c s) :
    PX χ n t r f p vo Op Oa Ou E O c s H D (cC (dc + 31) 821 [eR (.ref r)] c) (cT (dt + 31) 51 [eR (.ref 0)] s) := by
  have hz := RP_len hR
  rw [kX8_choice, r_cck, if_pos hR.2.2.2.1.1.1, uX8_choice, kX7_ifE, uX7_ifE]
  rcases P_part (dc + 15) (dt + 27) hR with ⟨a9, c9, s9, k9, pl9, w1, w2, w3, w4, w5, w6, w7, w8⟩ | ⟨e1, e2, hR1, hST1, hc1⟩
  · left
    rw [w1, w2, b_Vx, b_I, if_pos rfl]
    exact ⟨a9, c9, 0, s9, k9, pl9, rfl, rfl, w3, w4, w5, w6, by omega, by omega⟩
  · have hn62 := hR.2.2.2.1.2.1.2.2.2.2.2
    have hn65 : cnt (ptT s) 65 = cnt s 65 := rfl
    obtain ⟨e3, hB, _, _⟩ := BS_node (dt + 29) (E := E) (X := 60) (K := 41) hz hR1 hST1 (fun _ _ => rfl) (KS_pt _) (by decide) 0 0 (by rw [hc1, hn65]; omega)
    have e3' : cT (dt + 30) 47 [eR (.ref 0), eI 41, eI 0, eI 0] (ptT s) = _ := e3
    rw [e1, b_V, e2, b_I, if_neg (by decide), e3', b_I, RP_800 hB.1]
    generalize ndT (ptT s) (Int32.ofNat 41) 0 0 = s2 at hB ⊢
    generalize cnt (ptT s) 65 = N at hB ⊢
    have hnp : cNx (ptC c r) = cNx c := rfl
    have hnp2 : cSl (ptC c r) = cSl c := rfl
    rcases P_next (dc + 10) (dt + 10) hB.1 with hb | ⟨c2, s3, p3, f3, e5, e6, hW3⟩
    · left
      refine pB_lx hb (f1 := f) (by omega) (by omega) (fun a c' q => by rw [q]; rfl) (fun s' q1 q2 => ?_)
      rw [q1, b_V]
      simp only [F_e (dt + 26) q2, F_gets (dt + 28) _ _ q2, F_key (dt + 26) _ q2, b_I, b_V]
      exact ⟨_, _, rfl, rfl, rfl⟩
    · obtain ⟨hB3, hp3⟩ := BS_tok hz hB hW3
      have hpp : p ≤ f3 := hp3
      have hΦ := hB3.2.1.2.2.2
      rw [e5, e6, b_V, b_V]
      rcases hsub vo _ _ p3 f3 c2 s3 (by rw [hB3.2.2.2.2.2.1.2.2.2.1]; exact hlv) hB3.1 with hb | ⟨a1, y1, c3, s4, p4, f4, e7, e8, hX1⟩
      · left
        refine pB_step hb (by omega) (by omega) (fun a c' q => by rw [q]; rfl) (fun q s' q1 q2 => ?_)
        rw [q1, b_I]
        simp only [F_e (dt + 26) q2, F_gets (dt + 28) _ _ q2, F_key (dt + 26) _ q2, b_I, b_V]
        exact ⟨_, _, rfl, rfl, rfl⟩
      · obtain ⟨W1, vo1, s5, e9, hB4, hp4⟩ := BS_child (dt + 28) hz hB3 hX1
        have hf4 : f3 ≤ f4 := by obtain ⟨_, _, _, _, q, _⟩ := hX1; exact q.2.2.2.2.2.1
        have hΦ4 := hB4.2.1.2.2.2
        rw [e7, e8, b_R, b_I, e9, b_V, RP_800 hB4.1]
        rcases P_key (dc + 8) (dt + 9) 6 hB4.1 with hb | ⟨_, c4, s6, p5, f5, e10, e11, hW5⟩
        · left
          refine pB_lx hb (f1 := f4) (by omega) (by omega) (fun a c' q => by rw [q]; rfl) (fun s' q1 q2 => ?_)
          rw [q1, b_V]
          simp only [F_e (dt + 26) q2, F_gets (dt + 28) _ _ q2, F_key (dt + 26) _ q2, b_I, b_V]
          exact ⟨_, _, rfl, rfl, rfl⟩
        · have hf5 := (WK_ST hB4.1 hW5).1.2.2.2.2.2.1
          obtain ⟨hB5, hp5⟩ := BS_tok hz hB4 hW5
          have hΦ5 := hB5.2.1.2.2.2
          rw [e10, e11, b_V, b_V]
          rcases hsub vo1 _ _ p5 f5 c4 s6 (by rw [hB5.2.2.2.2.2.1.2.2.2.1]; exact hlv) hB5.1 with hb | ⟨a2, y2, c5, s7, p6, f6, e12, e13, hX2⟩
          · left
            refine pB_step hb (by omega) (by omega) (fun a c' q => by rw [q]; rfl) (fun q s' q1 q2 => ?_)
            rw [q1, b_I]
            simp only [F_e (dt + 26) q2, F_gets (dt + 28) _ _ q2, F_key (dt + 26) _ q2, b_I, b_V]
            exact ⟨_, _, rfl, rfl, rfl⟩
          · obtain ⟨W2, vo2, s8, e14, hB6, hp6⟩ := BS_child (dt + 28) hz hB5 hX2
            have hf6 : f5 ≤ f6 := by obtain ⟨_, _, _, _, q, _⟩ := hX2; exact q.2.2.2.2.2.1
            have hΦ6 := hB6.2.1.2.2.2
            rw [e12, e13, b_R, b_I, e14, b_V, RP_800 hB6.1]
            rcases P_key (dc + 8) (dt + 9) 7 hB6.1 with hb | ⟨hk7, c6, s9, p7, f7, e15, e16, hW7⟩
            · left
              refine pB_lx hb (f1 := f6) (by omega) (by omega) (fun a c' q => by rw [q]; rfl) (fun s' q1 q2 => ?_)
              rw [q1, b_V]
              simp only [F_e (dt + 26) q2, F_gets (dt + 28) _ _ q2, b_I, b_V]
              exact ⟨_, _, rfl, rfl, rfl⟩
            · obtain ⟨hST7, hsl7⟩ := WK_ST hB6.1 hW7
              obtain ⟨hff7, hy7, hz7⟩ := hsl7 (by rw [hk7.1]; decide)
              have hR7 := hW7.1
              have hn6 := hR7.2.2.1
              have hraw7 : ∀ b, raw c b → raw (nwC c6 20) b := fun b q => nw_raw hn6 20 b (hST7.2.2.2.2.2.2 b (hB6.2.1.2.2.2.2.2.2 b q))
              have hnx1 : cNx (nwC c6 20) = cNx c6 + 1 := rfl
              have hnx2 : cSl (nwC c6 20) = cSl c6 + 3 := rfl
              have hl6 : (cLs c5 (r + 8)).length ≤ (cLs c6 (r + 8)).length := ST_len hB6.1 hR7 hST7
              have hB7 := BS_gen hz hB6 (P_new 20 hR7) (KC_trans hl6 hST7.1 (KC_new hn6 hR7.2.2.2.1.1 20)) hW7.2.2.2.1 (by omega) (by omega) (by omega) hraw7
              have hΦ7 := hB7.2.1.2.2.2
              have hnw : cmore (csCl c6 (cNx c6) 20) (csz 20) = nwC c6 20 := rfl
              rw [e15, e16, b_V, b_V, r_cnw, hnw]
              rcases hsub vo2 _ _ p7 f7 (nwC c6 20) s9 (by rw [hB7.2.2.2.2.2.1.2.2.2.1]; exact hlv) hB7.1 with hb | ⟨a3, y3, c7, s10, p8, f8, e17, e18, hX3⟩
              · left
                refine pB_step hb (by omega) (by omega) (fun a c' q => by rw [q]; rfl) (fun q s' q1 q2 => ?_)
                rw [q1, b_I]
                simp only [F_gets (dt + 28) _ _ q2, b_V]
                exact ⟨_, _, rfl, rfl, rfl⟩
              · right
                have hX3' := hX3
                obtain ⟨W3, vo3, s11, e19, hB8, hp8⟩ := BS_child (dt + 28) hz hB7 hX3
                have hST8 : ST n r f7 (nwC c6 20) s9 f8 c7 s10 := by obtain ⟨_, _, _, _, q, _⟩ := hX3'; exact q
                rw [e17, e18, b_R, b_I, e19, b_V]
                have ha0 : cCl c (cNx c6) = 0 := (hR.2.2.1 _ (by have := hB6.2.1.1.1; have := hST7.1.1; omega)).1
                have hrw : raw (nwC c6 20) (cNx c6, []) := Or.inl (Or.inr (Or.inr (Or.inr ⟨nw_cl c6 20, ((hn6 _ (Nat.le_refl _)).2.1 2000 (by decide)).2.2⟩)))
                have hrw8 := hST8.2.2.2.2.2.2 _ hrw
                have ha8 : cCl c7 (cNx c6) = 20 := kc_cl hST8.1 (nw_cl c6 20) (by decide)
                have hnl : ¬ live c7 (cNx c6) := fun q => q.2 (raw_0 hrw8 (by rw [ha8]; decide) (by rw [ha8]; decide))
                have e20 := c_ch (dc + 19) (c := c7) (a := cNx c6) (v1 := .ref a1) (v2 := .ref a2) (v3 := .ref a3) ha8 rfl rfl rfl
                have hcl9 : CLN (chC c7 (cNx c6) (.ref a1) (.ref a2) (.ref a3)) := cC_cln e20 hB8.1.2.2.1
                have hch9 : CH [] [] [] [] c7 (chC c7 (cNx c6) (.ref a1) (.ref a2) (.ref a3)) := CH_R (Or.inr hnl) (CH_R (Or.inr hnl) (CH_R (Or.inr hnl) (CH_refl _ _ _ _ c7)))
                have hR9 := RP_fr hch9 (TH_refl [] [] [] [] s11) (fun _ _ _ => ⟨rfl, rfl⟩) hcl9 (Nat.le_refl _) (by decide) (by decide) (by simp) hB8.1
                have hraw9 : ∀ b, raw c b → raw (chC c7 (cNx c6) (.ref a1) (.ref a2) (.ref a3)) b := raw_R ha0 (raw_R ha0 (raw_R ha0 hB8.2.1.2.2.2.2.2.2))
                have hB9 := BS_gen hz hB8 hR9 (KC_of hch9 hB8.1.2.2.2.1.1 (Nat.le_refl _) (by decide)) (TH_refl _ _ _ _ s11) (Nat.le_refl _) (Nat.le_refl _) (Nat.le_refl _) hraw9
                rw [e20, b_V]
                have g1 : cCl (chC c7 (cNx c6) (.ref a1) (.ref a2) (.ref a3)) (cNx c6) = 20 := ha8
                have g2 : cR (chC c7 (cNx c6) (.ref a1) (.ref a2) (.ref a3)) 2000 (cNx c6) = .ref a1 := by simp [chC, gC]
                have g3 : cR (chC c7 (cNx c6) (.ref a1) (.ref a2) (.ref a3)) 2001 (cNx c6) = .ref a2 := by simp [chC, gC]
                have g4 : cR (chC c7 (cNx c6) (.ref a1) (.ref a2) (.ref a3)) 2002 (cNx c6) = .ref a3 := by simp [chC, gC]
                obtain ⟨g, hg⟩ := BS_Q hB9
                obtain ⟨r1, r2, r3, r4, r5⟩ := BS_root hB9 (by decide)
                have hch := L_chn (T := fun b y W => (cnt s 65 ≤ y ∧ y < cnt s11 65 ∧ y ≠ N) ∧ TR g (fun q => cnt s 65 ≤ q ∧ q < cnt s11 65 ∧ q ≠ N) r (chC c7 (cNx c6) (.ref a1) (.ref a2) (.ref a3)) s11 (cnt s 64) H D b y W) _ _ hB9.2.2.2.2.2.2.2.2.2.1 (fun e he => by
                  obtain ⟨q1, q2, q3⟩ := hg e he
                  have hHD : e.2.2.1 = H ∧ e.2.2.2.1 = D := by
                    simp only [List.nil_append, List.cons_append, List.mem_cons, List.not_mem_nil, or_false] at he
                    rcases he with rfl | rfl | rfl <;> exact ⟨rfl, rfl⟩
                  rw [hHD.1, hHD.2] at q3
                  exact ⟨q1, q3⟩)
                refine ⟨cNx c6, N, _, s11, p8, f8, rfl, rfl, BS_end0 (g := g + 1) (by have := hST8.2.2.2.2.2.1; omega) hB9 (by decide) (by decide) ?_⟩
                refine Or.inr ⟨r1, r2, r3, r4, hH, by omega, ?_⟩
                exact Or.inr (Or.inr (Or.inr (Or.inr (Or.inr (Or.inr (Or.inr (Or.inr (Or.inr (Or.inr (Or.inl ⟨g1, r5, a1, a2, a3, _, g2, g3, g4, hch, by omega⟩))))))))))
/-- an if at the reference's whole E -/
theorem H_if (dc dt : Nat) {H D lv : Nat} (hH : 1 ≤ H) (hsub : SP χ n t r Oa Ou O lv H D (dc + 32) 813 (dt + 31) 40) (vo : Nat → Nat) (Op : Nat → Prop) (E p f : Nat) (c : cS) (s : tS) (hlv : cnt s 63 = lv) (hR : RP χ n t r p f vo Op Oa Ou E O c s) (h8 : tI s 8 = 2) (h11 : tI s 11 = 5) :
    PX χ n t r f p vo Op Oa Ou E O c s H D (cC (dc + 33) 821 [eR (.ref r)] c) (cT (dt + 33) 44 [eR (.ref 0)] s) := by
  have h := S_if (dc + 2) (dt + 1) hH hsub vo Op E p f c s hlv hR
  rw [kX7_wholeE, uX7_wholeE]
  simp only [t_isKey, hR.2.1, h8, h11, true_and, and_true, and_false, show ((5 : Int32) = 3) = False from by decide, decide_false, decide_true, bi_f, bi_t, if_true, e10, if_false, b_I]
  rcases h with hb | ⟨a, x, c', s', p', f', h1, h2, h3⟩
  · left
    refine pB_step hb (Nat.le_refl _) (Nat.le_refl _) (fun a c' q => q) (fun q s' q1 q2 => ?_)
    rw [q1, b_I]
    exact ⟨q, s', rfl, rfl, rfl⟩
  · right
    exact ⟨a, x, c', s', p', f', h1, by rw [h2, b_I], h3⟩
end
