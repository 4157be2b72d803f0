set_option maxRecDepth 100000
set_option maxHeartbeats 4000000
/-! D38: the words before an E -/
section
variable {χ : Nat → Int32} {n t r : Nat} {Oa Ou : Nat → Prop} {O : Nat}
theorem csI_self (c : cS) (x a : Nat) : csI c x a (cI c x a) = c := by
  unfold csI cI
  refine Prod.ext ?_ rfl
  funext y b
  show (if y = x ∧ b = a then c.1 x a else c.1 y b) = c.1 y b
  by_cases q : y = x ∧ b = a
  · rw [if_pos q, q.1, q.2]
  · rw [if_neg q]
/-- as BS_gen, with the whole cost from the beginning -/
theorem BS_gen0 {f0 p f p' f' : Nat} {vo0 vo : Nat → Nat} {Op : Nat → Prop} {E X N K : Nat} {L : List cE} {c0 c c' : cS} {s0 s s' : tS} (hz : (cLs c0 (r + 8)).length = cnt s0 35) (h : BS χ n t r f0 vo0 Op Oa Ou E X O c0 s0 N K L p f vo c s) (hR' : RP χ n t r p' f' vo (fun y => Op y ∨ y = N) Oa Ou (E + X + sW L) O c' s') (hKC : KC r c c') (hth : TH [8, 9, 10, 11, 14, 15] [12] [] [13] s s')
    (h1 : cNx c' + 300 * (n - f') ≤ cNx c0 + 300 * (n - f0)) (h2 : cSl c' + 2000 * (n - f') ≤ cSl c0 + 2000 * (n - f0)) (hff : f ≤ f') (hraw : ∀ b, raw c0 b → raw c' b) : BS χ n t r f0 vo0 Op Oa Ou E X O c0 s0 N K L p' f' vo c' s' := by
  obtain ⟨hR, hST, hvo, hN0, hN1, hKS, k66, k67, k71, hl, hnd, g, hg⟩ := h
  have o : ∀ z y, tA s' z y = tA s z y := fun z y => th_A hth (by simp) y
  have hu0 : cnt s0 64 < cnt s 35 := by
    rw [← hKS.2.2.2.2]
    exact hR.2.2.2.1.2.2.2.2.2.2.2.1.1.2.1
  refine ⟨hR', ⟨KC_trans (ST_lz hz hR hST) hST.1 hKC, KT_trans hST.2.1 (KT_of hth (by decide)), fun y hy z hz => by rw [o]; exact hST.2.2.1 y hy z hz, h1, h2, by have := hST.2.2.2.2.2.1; omega, hraw⟩, hvo, hN0, by rw [th_cnt hth (by decide)]; exact hN1, KS_trans hKS (KS_th hth (by decide)), by rw [o]; exact k66, by rw [o]; exact k67, by rw [o]; exact k71, by rw [o]; exact lnk_cg _ _ (fun y _ => o 71 y) hl, hnd, g, fun e he => ?_⟩
  obtain ⟨e1, e2, e3, e4, e5⟩ := hg e he
  refine ⟨e1, by rw [th_cnt hth (by decide)]; exact e2, e3, by rw [o]; exact e4, ?_⟩
  exact TR_mono hKC (KT_of hth (by decide)) (RP_len hR) (fun v hv => (hR.2.2.2.1.2.2.2.2.2.2.1.2.1 v hv).2.2.1) (fun q _ z _ => o z q) hu0 g _ _ _ _ _ (fun z _ => o z _) e5
theorem S_word (dc dt : Nat) {H D lv : Nat} (w K : Nat) (hwK : (w = 19 ∧ K = 21) ∨ (w = 20 ∧ K = 23) ∨ (w = 21 ∧ K = 24) ∨ (w = 22 ∧ K = 22)) (hH : 1 ≤ H) (hsub : SP χ n t r Oa Ou O lv H D (dc + 30) 829 (dt + 30) 57)
    (hsubF : ∀ s, tI s 6 ≠ 0 → ∃ q, cT (dt + 30) 57 [eR (.ref 0)] s = some (.inl (some (eI q)), s)) (vo : Nat → Nat) (Op : Nat → Prop) (E p f : Nat) (c : cS) (s : tS) (hlv : cnt s 63 = lv) (hR : RP χ n t r p f vo Op Oa Ou E O c s) (h8 : tI s 8 = 2) (h11 : tI s 11 = Int32.ofNat w) :
    PX χ n t r f p vo Op Oa Ou E O c s H D (fX8_prefix_29 (cC (dc + 30)) (.ref r) 1 c) (fX7_prefix_16 (cT (dt + 30)) s) := by
  have hz := RP_len hR
  have hcw : cI c 1006 (r + 16) = Int32.ofNat w := by
    have := lx_key hR.1 (Int32.ofNat w)
    have q : cI c 1004 (r + 16) = 2 ∧ cI c 1006 (r + 16) = Int32.ofNat w := by rw [this]; exact ⟨h8, h11⟩
    exact q.2
  have hK42 : K ≤ 42 := by omega
  rw [uX8_prefix_29, if_neg (by decide), RP_800 hR, r_cgI, if_pos hR.1.1.1.1, hcw, uX7_prefix_16]
  rcases P_part (dc + 15) (dt + 27) hR with ⟨a9, c9, s9, k9, pl9, w1, w2, w3, w4, w5, w6, w7, w8⟩ | ⟨e1, e2, hR1, hST1, hc1⟩
  · left
    rw [w1, w2, b_Vx, b_I, if_pos rfl]
    exact ⟨a9, c9, 0, s9, k9, pl9, rfl, rfl, w3, w4, w5, w6, by omega, by omega⟩
  · have hn62 := hR.2.2.2.1.2.1.2.2.2.2.2
    have hn65 : cnt (ptT s) 65 = cnt s 65 := rfl
    have h11' : tI (ptT s) 11 = Int32.ofNat w := h11
    have hif : (if tI (ptT s) 11 = (19 : Int32) then fX7_prefix_41 (cT (dt + 30)) 21 (ptT s) else if tI (ptT s) 11 = (22 : Int32) then fX7_prefix_41 (cT (dt + 30)) 22 (ptT s) else if tI (ptT s) 11 = (20 : Int32) then fX7_prefix_41 (cT (dt + 30)) 23 (ptT s) else fX7_prefix_41 (cT (dt + 30)) 24 (ptT s)) = fX7_prefix_41 (cT (dt + 30)) (Int32.ofNat K) (ptT s) := by
      simp only [h11']
      rcases hwK with ⟨rfl, rfl⟩ | ⟨rfl, rfl⟩ | ⟨rfl, rfl⟩ | ⟨rfl, rfl⟩ <;> rfl
    obtain ⟨e3, hB, _, _⟩ := BS_node (dt + 29) (E := E) (X := 60) (K := K) hz hR1 hST1 (fun _ _ => rfl) (KS_pt _) hK42 0 0 (by rw [hc1, hn65]; omega)
    have htok : tI (ndT (ptT s) (Int32.ofNat K) 0 0) 8 ≠ 0 := by
      have : tI (ndT (ptT s) (Int32.ofNat K) 0 0) 8 = tI s 8 := rfl
      rw [this, h8]; decide
    rw [e1, b_V, e2, b_I, if_neg (by decide), hif, uX7_prefix_41, e3, b_I, RP_800 hB.1]
    generalize ndT (ptT s) (Int32.ofNat K) 0 0 = s2 at hB htok ⊢
    generalize cnt (ptT s) 65 = N at hB ⊢
    have hnp : cNx (ptC c r) = cNx c := rfl
    have hnp2 : cSl (ptC c r) = cSl c := rfl
    rcases P_next (dc + 10) (dt + 10) hB.1 with hb | ⟨c2, s3, p3, f3, e5, e6, hW3⟩
    · left
      refine pB_lx hb (f1 := f) (by omega) (by omega) (fun a c' q => by rw [q]; rfl) (fun s' q1 q2 => ?_)
      obtain ⟨q9, hq9⟩ := hsubF s' q2
      rw [q1, b_V, hq9, b_I, F_gets (dt + 28) _ _ q2, b_V]
      exact ⟨_, _, rfl, rfl, rfl⟩
    · obtain ⟨hff3, hy3, hz3⟩ := (WK_ST hB.1 hW3).2 htok
      obtain ⟨hB3, hp3⟩ := BS_tok hz hB hW3
      rw [e5, e6, b_V, b_V]
      rcases hsub vo _ _ p3 f3 c2 s3 (by rw [hB3.2.2.2.2.2.1.2.2.2.1]; exact hlv) hB3.1 with hb | ⟨a1, y1, c3, s4, p4, f4, e7, e8, hX1⟩
      · left
        refine pB_step hb (by omega) (by omega) (fun a c' q => by rw [q]; rfl) (fun q s' q1 q2 => ?_)
        rw [q1, b_I, F_gets (dt + 28) _ _ q2, b_V]
        exact ⟨_, _, rfl, rfl, rfl⟩
      · right
        have hST4 : ST n r f3 c2 s3 f4 c3 s4 := by obtain ⟨_, _, _, _, q, _⟩ := hX1; exact q
        have hy4 := hST4.2.2.2.1
        have hz4 := hST4.2.2.2.2.1
        have hf4 := hST4.2.2.2.2.2.1
        obtain ⟨W1, vo1, s5, e9, hB4, hp4⟩ := BS_child (dt + 28) hz hB3 hX1
        rw [e7, e8, b_R, b_I, e9, b_V]
        have hR4 := hB4.1
        obtain ⟨r1, r2, r3, r4, r5⟩ := BS_root hB4 hK42
        have h64 : cnt s5 64 = cnt s 64 := hB4.2.2.2.2.2.1.2.2.2.2
        have hcu := hR4.2.2.2.1.2.2.2.2.2.2.2.1.1
        rw [h64] at hcu
        have h803 : cR c3 803 r = .ref (lid c3 (r + 8) (cnt s 64)) := hcu.2.2
        have hcl16 : cCl c3 (lid c3 (r + 8) (cnt s 64)) = 16 := (hR4.2.2.2.1.2.2.2.2.2.1.2.1.2 _ hcu.2.1).2
        have hcl8 := hR4.2.2.2.1.1.1
        have hfl := (hR4.2.2.2.1.2.2.2.2.2.2.2.2.1.2 _ hcu.2.1).1 1616 (by simp)
        generalize hul : lid c3 (r + 8) (cnt s 64) = ul at h803 hcl16 hfl
        -- the flag
        have hfg : ∃ v : Int32, (v = 0 ∨ v = 1) ∧ (if cI c3 1616 ul = 0 then if Int32.ofNat w = (20 : Int32) then fX8_prefix_59 (cC (dc + 30)) (Int32.ofNat w) (.ref a1) (.ref ul) 1 c3 else fX8_prefix_59 (cC (dc + 30)) (Int32.ofNat w) (.ref a1) (.ref ul) 0 c3 else fX8_prefix_59 (cC (dc + 30)) (Int32.ofNat w) (.ref a1) (.ref ul) 1 c3) = fX8_prefix_59 (cC (dc + 30)) (Int32.ofNat w) (.ref a1) (.ref ul) v c3 ∧
            RP χ n t r p4 f4 vo1 (fun y => Op y ∨ y = N) Oa Ou (E + 60 + sW ([] ++ [(a1, y1, H, D, W1)])) O (csI c3 1616 ul v) s5 ∧ KC r c3 (csI c3 1616 ul v) ∧ (K = 23 → v = 1) := by
          by_cases h23 : K = 23
          · have hw20 : w = 20 := by omega
            have := P_f16 hR4 r1 r3 (by rw [r5]; exact h23)
            rw [hul] at this
            refine ⟨1, Or.inr rfl, ?_, this.1, this.2, fun _ => rfl⟩
            rw [hw20, if_pos (show Int32.ofNat 20 = (20 : Int32) from rfl)]
            by_cases q : cI c3 1616 ul = 0
            · rw [if_pos q]
            · rw [if_neg q]
          · have hw20 : ¬ Int32.ofNat w = (20 : Int32) := by
              rw [show (20 : Int32) = Int32.ofNat 20 from rfl, z_eq (by omega) (by omega)]; omega
            refine ⟨cI c3 1616 ul, hfl, ?_, by rw [csI_self]; exact hR4, by rw [csI_self]; exact KC_refl r c3, fun q => absurd q h23⟩
            rw [if_neg hw20]
            rcases hfl with q | q
            · rw [q, if_pos rfl]
            · rw [q, if_neg (by decide)]
        obtain ⟨v, hv, hfe, hR5, hKC5, h23⟩ := hfg
        rw [r_cgR, if_pos hcl8, h803, r_cgR, if_pos hcl8, h803, r_cgI, if_pos hcl16, hfe, uX8_prefix_59, r_cpZ, if_pos ⟨hcl16, hv⟩, r_cnw]
        have hn5 := hR5.2.2.1
        have hc16 : cI (csI c3 1616 ul v) 1616 ul = v := by rw [g_I_I, if_pos ⟨rfl, rfl⟩]
        have hnx5 : cNx (csI c3 1616 ul v) = cNx c3 := rfl
        have hsl5 : cSl (csI c3 1616 ul v) = cSl c3 := rfl
        have hraw5 : ∀ b, raw c b → raw (csI c3 1616 ul v) b := raw_I hB4.2.1.2.2.2.2.2.2
        have hlid5 : lid (csI c3 1616 ul v) (r + 8) (cnt s 64) = ul := hul
        have hlen5 : (cLs c3 (r + 8)).length ≤ (cLs (csI c3 1616 ul v) (r + 8)).length := Nat.le_refl _
        generalize csI c3 1616 ul v = c4 at hR5 hKC5 hn5 hc16 hnx5 hsl5 hraw5 hlid5 hlen5 ⊢
        have hnw : cmore (csCl c4 (cNx c4) 33) (csz 33) = nwC c4 33 := rfl
        rw [hnw]
        have ha6 : cCl (nwC c4 33) (cNx c4) = 33 := nw_cl c4 33
        have e10 := c_wk (dc + 19) (c := nwC c4 33) (a := cNx c4) (Int32.ofNat K) (v1 := .ref a1) (v2 := .null) ha6 rfl rfl
        have hrw : raw0 (nwC c4 33) (cNx c4) := Or.inl ⟨nw_cl c4 33, ((hn5 _ (Nat.le_refl _)).2.1 3301 (by decide)).2.2⟩
        have hnl : ¬ live (nwC c4 33) (cNx c4) := fun q => q.2 hrw
        have hcl7 : CLN (wkC (nwC c4 33) (cNx c4) (Int32.ofNat K) (.ref a1) .null) := cC_cln e10 (P_new 33 hR5).2.2.1
        have hch7 : CH [] [] [] [] (nwC c4 33) (wkC (nwC c4 33) (cNx c4) (Int32.ofNat K) (.ref a1) .null) := CH_R (Or.inr hnl) (CH_R (Or.inr hnl) (CH_I (Or.inr hnl) (CH_refl _ _ _ _ _)))
        have hR7 := RP_fr hch7 (TH_refl [] [] [] [] s5) (fun _ _ _ => ⟨rfl, rfl⟩) hcl7 (Nat.le_refl _) (by decide) (by decide) (by simp) (P_new 33 hR5)
        have ha3 : cCl c3 (cNx c4) = 0 := (hR4.2.2.1 _ (by omega)).1
        have ha0 : cCl c (cNx c4) = 0 := (hR.2.2.1 _ (by have := hB4.2.1.1.1; omega)).1
        have hKC7 : KC r c3 (wkC (nwC c4 33) (cNx c4) (Int32.ofNat K) (.ref a1) .null) := KC_R ha3 (KC_R ha3 (KC_I ha3 (KC_trans hlen5 hKC5 (KC_new hn5 hR5.2.2.2.1.1 33))))
        have hraw7 : ∀ b, raw c b → raw (wkC (nwC c4 33) (cNx c4) (Int32.ofNat K) (.ref a1) .null) b := raw_R ha0 (raw_R ha0 (raw_I (fun b q => nw_raw hn5 33 b (hraw5 b q))))
        have hnx7 : cNx (wkC (nwC c4 33) (cNx c4) (Int32.ofNat K) (.ref a1) .null) = cNx c4 + 1 := rfl
        have hsl7 : cSl (wkC (nwC c4 33) (cNx c4) (Int32.ofNat K) (.ref a1) .null) = cSl c4 + 3 := rfl
        have hB7 := BS_gen0 hz hB4 hR7 hKC7 (TH_refl _ _ _ _ s5) (by omega) (by omega) (Nat.le_refl _) hraw7
        have hc4n : cI c4 1616 ul = v := hc16
        have hul0 : ul ≠ cNx c4 := fun q => by rw [q, ha3] at hcl16; cases hcl16
        have g1 : cCl (wkC (nwC c4 33) (cNx c4) (Int32.ofNat K) (.ref a1) .null) (cNx c4) = 33 := ha6
        have g2 : cI (wkC (nwC c4 33) (cNx c4) (Int32.ofNat K) (.ref a1) .null) 3300 (cNx c4) = Int32.ofNat K := by simp [wkC, gC]
        have g3 : cR (wkC (nwC c4 33) (cNx c4) (Int32.ofNat K) (.ref a1) .null) 3301 (cNx c4) = .ref a1 := by simp [wkC, gC]
        have g4 : cR (wkC (nwC c4 33) (cNx c4) (Int32.ofNat K) (.ref a1) .null) 3302 (cNx c4) = .null := by simp [wkC, gC]
        have g5 : cI (wkC (nwC c4 33) (cNx c4) (Int32.ofNat K) (.ref a1) .null) 1616 ul = v := hc16
        have g6 : lid (wkC (nwC c4 33) (cNx c4) (Int32.ofNat K) (.ref a1) .null) (r + 8) (cnt s 64) = ul := hlid5
        have hfin : (if Int32.ofNat w = (19 : Int32) then bV (cC (dc + 30) 3300 [eR (.ref (cNx c4)), eI 21, eR (.ref a1), eR .null] (nwC c4 33)) fun h7 => some (.inl (some (eR (.ref (cNx c4)))), h7) else if Int32.ofNat w = (20 : Int32) then bV (cC (dc + 30) 3300 [eR (.ref (cNx c4)), eI 23, eR (.ref a1), eR .null] (nwC c4 33)) fun h6 => some (.inl (some (eR (.ref (cNx c4)))), h6) else if Int32.ofNat w = (21 : Int32) then bV (cC (dc + 30) 3300 [eR (.ref (cNx c4)), eI 24, eR (.ref a1), eR .null] (nwC c4 33)) fun h5 => some (.inl (some (eR (.ref (cNx c4)))), h5) else bV (cC (dc + 30) 3300 [eR (.ref (cNx c4)), eI 22, eR (.ref a1), eR .null] (nwC c4 33)) fun h4 => some (.inl (some (eR (.ref (cNx c4)))), h4) : cRes) = some (.inl (some (eR (.ref (cNx c4)))), wkC (nwC c4 33) (cNx c4) (Int32.ofNat K) (.ref a1) .null) := by
          rcases hwK with ⟨rfl, rfl⟩ | ⟨rfl, rfl⟩ | ⟨rfl, rfl⟩ | ⟨rfl, rfl⟩
          · rw [if_pos (show Int32.ofNat 19 = (19 : Int32) from rfl)]; exact congrArg (fun z => bV z _) e10
          · rw [if_neg (by decide), if_pos (show Int32.ofNat 20 = (20 : Int32) from rfl)]; exact congrArg (fun z => bV z _) e10
          · rw [if_neg (by decide), if_neg (by decide), if_pos (show Int32.ofNat 21 = (21 : Int32) from rfl)]; exact congrArg (fun z => bV z _) e10
          · rw [if_neg (by decide), if_neg (by decide), if_neg (by decide)]; exact congrArg (fun z => bV z _) e10
        refine ⟨cNx c4, N, _, s5, p4, f4, hfin, rfl, ?_⟩
        generalize wkC (nwC c4 33) (cNx c4) (Int32.ofNat K) (.ref a1) .null = c5 at hB7 g1 g2 g3 g4 g5 g6 ⊢
        obtain ⟨g, hg⟩ := BS_Q hB7
        have hch := L_chn (T := fun b y W => (cnt s 65 ≤ y ∧ y < cnt s5 65 ∧ y ≠ N) ∧ TR g (fun q => cnt s 65 ≤ q ∧ q < cnt s5 65 ∧ q ≠ N) r c5 s5 (cnt s 64) H D b y W) _ _ hB7.2.2.2.2.2.2.2.2.2.1 (fun e he => by
          obtain ⟨q1, q2, q3⟩ := hg e he
          have hHD : e.2.2.1 = H ∧ e.2.2.2.1 = D := by
            simp only [List.nil_append, List.mem_cons, List.not_mem_nil, or_false] at he
            rcases he with rfl
            exact ⟨rfl, rfl⟩
          rw [hHD.1, hHD.2] at q3
          exact ⟨q1, q3⟩)
        have hk66 : tA s5 66 N = Int32.ofNat K := hB7.2.2.2.2.2.2.1
        have hT : TR (g + 1) (fun q => cnt s 65 ≤ q ∧ q < cnt s5 65 ∧ q ≠ N) r c5 s5 (cnt s 64) H D (cNx c4) N (60 + sW ([] ++ [(a1, y1, H, D, W1)])) := by
          refine Or.inr ⟨r1, r2, r3, r4, hH, by omega, ?_⟩
          exact Or.inr (Or.inr (Or.inr (Or.inl ⟨g1, by rw [g2, hk66], by rw [r5]; omega, g4, a1, _, g3, hch, by omega⟩)))
        have hRc : RP χ n t r p4 f4 vo1 Op Oa Ou (E + (60 + sW ([] ++ [(a1, y1, H, D, W1)]))) O c5 s5 := by
          rw [← Nat.add_assoc]
          by_cases q : K = 23
          · exact P_close23 hB7.1 (by rw [r5]; exact q) r3 (by rw [g6, g5]; exact h23 q)
          · exact P_close0 hB7.1 (by rw [r5]; omega)
        obtain ⟨z1, z2, z3, z4, z5, z6, z7, z8, z9, z10⟩ := hB7
        exact ⟨vo1, g + 1, _, hRc, z2, z3, z4, z5, hT, z9, z6, by omega⟩
end
