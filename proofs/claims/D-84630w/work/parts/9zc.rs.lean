set_option maxRecDepth 100000
set_option maxHeartbeats 4000000
/-! D77: a read, a write, a send: steps -/
section
variable {c0 c c' : cS}
/-- a send is set up -/
def snC (c : cS) (o a : Nat) (k : Int32) (b : Int64) (L : Nat) : cS := csR (csL (csI (csR c 3000 o (.ref a)) 3001 o k) 3002 o b) 3003 o (.ref L)
theorem c_sn (d : Nat) {o a L : Nat} {k : Int32} {b : Int64} (ho : cCl c o = 30) : cC (d + 11) 3000 [eR (.ref o), eR (.ref a), eI k, eL b, eR (.ref L)] c = some (.inl none, snC c o a k b L) := by
  rw [kX30_init, r_cck, if_pos ho, uX30_init, kX18_init, uX18_init]
  simp only [pP, ho, show misR (.ref a) = true from rfl, show misR (.ref L) = true from rfl, rC, bB, Nat.reduceDiv, Nat.reduceLeDiff, Nat.reduceLT,  eq_self, if_true, if_false, true_and, and_true, false_and, and_false, or_true, true_or, or_false, false_or, reduceIte, reduceCtorEq, Nat.reduceEqDiff, not_true_eq_false, not_false_eq_true, r_misN, r_misR, gC]
  rfl
theorem raw_sn {o a L : Nat} {k : Int32} {b : Int64} (h : ∀ q, raw c0 q → raw c q) (ho : cCl c0 o = 0) (hL : cCl c0 L = 0) : ∀ q, raw c0 q → raw (snC c o a k b L) q := fun q hq => by
  have h1 : q.1 ≠ o := by rintro rfl; exact raw_cl0 hq ho
  have h2 : q.1 ≠ L := by rintro rfl; exact raw_cl0 hq hL
  have kk : ∀ x w, w ≠ o ∨ (x ≠ 3000 ∧ x ≠ 3003) → cR (snC c o a k b L) x w = cR c x w := fun x w hw => by
    show cR (csR (csL (csI (csR c 3000 o (.ref a)) 3001 o k) 3002 o b) 3003 o (.ref L)) x w = _
    rw [g_R_R, if_neg (fun z => by omega)]
    show cR (csR c 3000 o (.ref a)) x w = _
    rw [g_R_R, if_neg (fun z => by omega)]
  rcases h q hq with w | ⟨w1, w2, w3⟩
  · left
    unfold raw0 at w ⊢
    rw [kk 3301 _ (Or.inl h1), kk 3100 _ (Or.inl h1), kk 3000 _ (Or.inl h1), kk 2000 _ (Or.inl h1)]
    exact w
  · refine Or.inr ⟨w1, w2, fun z => ?_⟩
    rw [kk 2700 _ (Or.inr (by decide)), kk 3201 _ (Or.inr (by decide))]
    refine ⟨(w3 z).1, fun e1 e2 => ?_, (w3 z).2.2⟩
    by_cases hz : z = o
    · rw [hz, show cR (snC c o a k b L) 3003 o = .ref L by simp [snC, gC]]
      intro e
      cases e
      exact h2 rfl
    · rw [kk 3003 _ (Or.inl hz)]
      rw [kk 3000 _ (Or.inl hz)] at e2
      exact (w3 z).2.1 e1 e2
end
section
variable {χ : Nat → Int32} {n t r : Nat} {Op Oa Ou : Nat → Prop} {E O : Nat}
variable {f0 p0 : Nat} {vo0 : Nat → Nat} {c0 : cS} {s0 : tS} {vq : Nat → Nat} {Opq Oaq Ouq : Nat → Prop} {Eq' Oq' : Nat} {sq : tS} {Hq Dq : Nat} {kC : Value → cS → cRes} {kT : Int32 → tS → tR}
/-- a read -/
theorem J_read (dc : Nat) {H D a x W N p f k : Nat} {vo : Nat → Nat} {c : cS} {s : tS} (hH : 1 ≤ H) (hp : p0 ≤ f) (hz : (cLs c0 (r + 8)).length = cnt s0 35) (hB : BS χ n t r f0 vo0 Op Oa Ou E 60 O c0 s0 N 5 [(a, x, H, D, W)] p f vo c s) (h68 : tA s 68 N = Int32.ofNat k) (hk : k < cnt s 60) (hk9 : k ≤ 399)
    (k1 : cNx c + 10 + 300 * (n - f) ≤ cNx c0 + 300 * (n - f0)) (k2 : cSl c + 10 + 2000 * (n - f) ≤ cSl c0 + 2000 * (n - f0)) :
    cC (dc + 11) 3100 [eR (.ref (cNx c)), eR (.ref a), eI (Int32.ofNat k), eR .null] (nwC c 31) = some (.inl none, wrC (nwC c 31) (cNx c) a (Int32.ofNat k) .null) ∧ PXo χ n t r f0 p0 vo0 Op Oa Ou E O c0 s0 H D (cNx c) N (wrC (nwC c 31) (cNx c) a (Int32.ofNat k) .null) s p f := by
  have hR := hB.1
  have hn := hR.2.2.1
  have ha : cCl c (cNx c) = 0 := (hn _ (Nat.le_refl _)).1
  have e11 := c_wr dc (c := nwC c 31) (o := cNx c) (a := a) (k := Int32.ofNat k) (v := .null) (nw_cl c 31) rfl
  have hfr : FR c (wrC (nwC c 31) (cNx c) a (Int32.ofNat k) .null) := FR_R ha (FR_I ha (FR_R ha (FR_nw ha (FR_refl c))))
  have hnf : NF c (wrC (nwC c 31) (cNx c) a (Int32.ofNat k) .null) := NF_nw (k := 31) (by decide) (NF_refl c)
  have hcl := cC_cln e11 (P_new 31 hR).2.2.1
  have hR6 := RP_FR hfr hnf hcl hR
  have hK6 := FR_kc hfr hnf hR.2.2.2.1.1
  have g1 : cCl (wrC (nwC c 31) (cNx c) a (Int32.ofNat k) .null) (cNx c) = 31 := nw_cl c 31
  have g2 : cR (wrC (nwC c 31) (cNx c) a (Int32.ofNat k) .null) 3100 (cNx c) = .ref a := by simp [wrC, gC]
  have g3 : cR (wrC (nwC c 31) (cNx c) a (Int32.ofNat k) .null) 3101 (cNx c) = .null := by simp [wrC, gC]
  have g4 : cI (wrC (nwC c 31) (cNx c) a (Int32.ofNat k) .null) 3102 (cNx c) = Int32.ofNat k := by simp [wrC, gC]
  have hnx : cNx (wrC (nwC c 31) (cNx c) a (Int32.ofNat k) .null) = cNx c + 1 := rfl
  have hsl : cSl (wrC (nwC c 31) (cNx c) a (Int32.ofNat k) .null) = cSl c + 3 := rfl
  have hraw : ∀ b, raw c0 b → raw (wrC (nwC c 31) (cNx c) a (Int32.ofNat k) .null) b := fun b q => FR_raw hfr hnf b (hB.2.1.2.2.2.2.2.2 b q)
  refine ⟨e11, ?_⟩
  generalize wrC (nwC c 31) (cNx c) a (Int32.ofNat k) .null = c6 at *
  obtain ⟨g, hg⟩ := BS_kids hB hK6
  obtain ⟨r1, r2, r3, r4, r5⟩ := BS_root hB (by decide)
  obtain ⟨q1, q2, q3⟩ := hg (a, x, H, D, W) (by simp)
  obtain ⟨j1, j2, j3⟩ := hB.2.2.2.2.2.2.2.2.2.1
  refine BS_fin (g := g + 1) hz hp hB ?_ hK6 (by omega) (by omega) hraw ?_
  · rw [← Nat.add_assoc]
    exact P_close0 hR6 (by rw [r5]; decide)
  · refine Or.inr ⟨r1, r2, r3, r4, hH, by omega, ?_⟩
    exact Or.inr (Or.inr (Or.inr (Or.inr (Or.inr (Or.inl ⟨g1, aok_of h68 (by omega) hk9, by rw [ca_of h68 (by omega)]; exact hk, by rw [g4, h68], a, [], x, W, 0, g2, Or.inl ⟨r5, rfl, g3⟩, j1, j2, q2, q1, q3, j3, by show W + 0 + 8 ≤ 60 + (W + 0); omega⟩)))))
/-- a write, at its sign -/
theorem J_write (dc dt : Nat) {H D lv a x W N p f k : Nat} {vo : Nat → Nat} {c : cS} {s : tS} (hH : 1 ≤ H) (hp : p0 ≤ f) (hsub : SP χ n t r Oa Ou O lv (H - 1) D (dc + 31) 829 (dt + 31) 57) (hlv : cnt s0 63 = lv) (hz : (cLs c0 (r + 8)).length = cnt s0 35) (hn0 : CLN c0) (hB : BS χ n t r f0 vo0 Op Oa Ou E 60 O c0 s0 N 6 [(a, x, H, D, W)] p f vo c s) (h68 : tA s 68 N = Int32.ofNat k) (hk : k < cnt s 60) (hk9 : k ≤ 399) (h8 : tI s 8 ≠ 0) (hF : ∀ y, FH (kT y))
    (hgo : ∀ a' c' s' p' f', PXo χ n t r f0 p0 vo0 Op Oa Ou E O c0 s0 H D a' N c' s' p' f' → tA s' 66 N = 6 → PX χ n t r f0 p0 vq Opq Oaq Ouq Eq' Oq' c0 sq Hq Dq (some (.inl (some (eR (.ref a'))), c')) (kT (Int32.ofNat N) s')) :
    PX χ n t r f0 p0 vq Opq Oaq Ouq Eq' Oq' c0 sq Hq Dq (bV (cC (dc + 30) 1001 [eR (.ref (r + 16))] c) fun h32 => cnw h32 31 fun v37 h38 => bR (cC (dc + 31) 829 [eR (.ref r)] h38) fun v40 h39 => bV (cC (dc + 31) 3100 [eR v37, eR (.ref a), eI (Int32.ofNat k), eR v40] h39) fun h41 => some (.inl (some (eR v37)), h41))
      (bV (cT (dt + 31) 6 [eR (.ref 0)] s) fun h9 => bI (cT (dt + 31) 57 [eR (.ref 0)] h9) fun v11 h10 => bV (cT (dt + 31) 49 [eR (.ref 0), eI (Int32.ofNat N), eI v11] h10) fun h12 => kT (Int32.ofNat N) h12) := by
  refine B_next (dc + 10) (dt + 11) hz hB (fun s' q2 => ?_) (fun c5 s5 p5 f5 hB5 hW5 hp5 m1 m2 hf5 hcr => ?_)
  · rw [F_inner (dt + 27) q2, b_I, F_gets (dt + 29) _ _ q2, b_V]
    exact hF _ s' q2
  obtain ⟨m3, m4, m5⟩ := hcr h8
  have hST5 := (WK_ST hB.1 hW5).1
  have hR5 := hB5.1
  have hn5 := hR5.2.2.1
  have hnw : cmore (csCl c5 (cNx c5) 31) (csz 31) = nwC c5 31 := rfl
  have hq1 := hB.2.1.2.2.2.1
  have hq2 := hB.2.1.2.2.2.2.1
  have hnx1 : cNx (nwC c5 31) = cNx c5 + 1 := rfl
  have hnx2 : cSl (nwC c5 31) = cSl c5 + 3 := rfl
  have hB6 := BS_gen hz hB (P_new 31 hR5) (KC_trans (ST_len hB.1 hR5 hST5) hST5.1 (KC_new hn5 hR5.2.2.2.1.1 31)) hW5.2.2.2.1 (by omega) (by omega) (by omega) (fun b q => nw_raw hn5 31 b (hST5.2.2.2.2.2.2 b (hB.2.1.2.2.2.2.2.2 b q)))
  have ho0 : cCl c0 (cNx c5) = 0 := (hn0 _ (by have := hB5.2.1.1.1; omega)).1
  rw [r_cnw, hnw]
  refine B_kid (dt + 29) hz hB6 (hsub _ _ _ _ _ _ _ (hB6.2.2.2.2.2.1.2.2.2.1.trans hlv) hB6.1) (fun s' q2 => hF _ s' q2) (fun a1 y1 W1 vo7 c7 s7 p7 f7 hB7 hp7 hf7 m6 m7 hK7 hT7 hv7 hr7 ho7 => ?_)
  have hrw : raw (nwC c5 31) (cNx c5, []) := Or.inl (Or.inr (Or.inl ⟨nw_cl c5 31, ((hn5 _ (Nat.le_refl _)).2.1 3100 (by decide)).2.2⟩))
  have ha7 : cCl c7 (cNx c5) = 31 := kc_cl hK7 (nw_cl c5 31) (by decide)
  have hnl : ¬ live c7 (cNx c5) := fun q => q.2 (raw_0 (hr7 _ hrw) (by rw [ha7]; decide) (by rw [ha7]; decide))
  have e20 := c_wr (dc + 20) (c := c7) (o := cNx c5) (a := a) (k := Int32.ofNat k) (v := .ref a1) ha7 rfl
  have hcl9 := cC_cln e20 hB7.1.2.2.1
  have hch9 : CH [] [] [] [] c7 (wrC c7 (cNx c5) a (Int32.ofNat k) (.ref a1)) := CH_R (Or.inr hnl) (CH_I (Or.inr hnl) (CH_R (Or.inr hnl) (CH_refl _ _ _ _ c7)))
  have hR9 := RP_fr hch9 (TH_refl [] [] [] [] s7) (fun _ _ _ => ⟨rfl, rfl⟩) hcl9 (Nat.le_refl _) (by decide) (by decide) (by simp) hB7.1
  have hK9 := KC_of hch9 hB7.1.2.2.2.1.1 (Nat.le_refl _) (by decide)
  have hraw9 : ∀ b, raw c0 b → raw (wrC c7 (cNx c5) a (Int32.ofNat k) (.ref a1)) b := raw_R ho0 (raw_I (raw_R ho0 hB7.2.1.2.2.2.2.2.2))
  have g1 : cCl (wrC c7 (cNx c5) a (Int32.ofNat k) (.ref a1)) (cNx c5) = 31 := ha7
  have g2 : cR (wrC c7 (cNx c5) a (Int32.ofNat k) (.ref a1)) 3100 (cNx c5) = .ref a := by simp [wrC, gC]
  have g3 : cR (wrC c7 (cNx c5) a (Int32.ofNat k) (.ref a1)) 3101 (cNx c5) = .ref a1 := by simp [wrC, gC]
  have g4 : cI (wrC c7 (cNx c5) a (Int32.ofNat k) (.ref a1)) 3102 (cNx c5) = Int32.ofNat k := by simp [wrC, gC]
  have hnx9 : cNx (wrC c7 (cNx c5) a (Int32.ofNat k) (.ref a1)) = cNx c7 := rfl
  have hsl9 : cSl (wrC c7 (cNx c5) a (Int32.ofNat k) (.ref a1)) = cSl c7 := rfl
  rw [e20, b_V]
  generalize wrC c7 (cNx c5) a (Int32.ofNat k) (.ref a1) = c9 at *
  have k687 : tA s7 68 N = Int32.ofNat k := by
    rw [ho7 68 (by simp), th_A hW5.2.2.2.1 (by decide)]; exact h68
  have hk7 : k < cnt s7 60 := Nat.lt_of_lt_of_le hk (by have := hT7.1 60 (by simp); rw [th_cnt hW5.2.2.2.1 (by decide)] at this; exact this)
  obtain ⟨g, hg⟩ := BS_kids hB7 hK9
  obtain ⟨r1, r2, r3, r4, r5⟩ := BS_root hB7 (by decide)
  obtain ⟨q1, q2, q3⟩ := hg (a, x, H, D, W) (by simp)
  have hlnk := hB7.2.2.2.2.2.2.2.2.2.1
  rw [List.cons_append, List.nil_append, List.map_cons] at hlnk
  obtain ⟨j1, j2, j3⟩ := hlnk
  have hch := L_chn (T := fun b y W => (cnt s0 65 ≤ y ∧ y < cnt s7 65 ∧ y ≠ N) ∧ TR g (fun q => cnt s0 65 ≤ q ∧ q < cnt s7 65 ∧ q ≠ N) r c9 s7 (cnt s0 64) (H - 1) D b y W) [(a1, y1, H - 1, D, W1)] _ j3 (fun e he => by
    obtain ⟨i1, i2, i3⟩ := hg e (by simp only [List.mem_singleton] at he; simp [he])
    rw [List.mem_singleton] at he
    rw [he] at i1 i3 ⊢
    exact ⟨i1, i3⟩)
  have k66 := hB7.2.2.2.2.2.2.1
  refine hgo _ _ _ _ _ (BS_fin (a := cNx c5) (g := g + 1) hz (by omega) hB7 ?_ hK9 (by omega) (by omega) hraw9 ?_) k66
  · rw [← Nat.add_assoc]
    exact P_close0 hR9 (by rw [r5]; decide)
  · refine Or.inr ⟨r1, r2, r3, r4, hH, by omega, ?_⟩
    exact Or.inr (Or.inr (Or.inr (Or.inr (Or.inr (Or.inl ⟨g1, aok_of k687 (by omega) hk9, by rw [ca_of k687 (by omega)]; exact hk7, by rw [g4, k687], a, [a1], x, W, W1 + 0, g2, Or.inr ⟨a1, r5, rfl, g3⟩, j1, j2, q2, q1, q3, hch, by show W + (W1 + 0) + 8 ≤ 60 + (W + (W1 + 0)); omega⟩)))))
end
section
variable {χ : Nat → Int32} {n t r : Nat} {Op Oa Ou : Nat → Prop} {E O : Nat}
variable {f0 p0 : Nat} {vo0 : Nat → Nat} {c0 : cS} {s0 : tS} {vq : Nat → Nat} {Opq Oaq Ouq : Nat → Prop} {Eq' Oq' : Nat} {sq : tS} {Hq Dq : Nat} {kC : Value → cS → cRes} {kT : Int32 → tS → tR}
/-- a send, at its bracket -/
theorem J_send (dc dt : Nat) {H D lv a x W N p f k pz Ez Oz : Nat} {vo : Nat → Nat} {c : cS} {s : tS} {b : Int64} (hH : 4 ≤ H) (hp : p0 ≤ f) (hsub : SP χ n t r Oa Ou O lv (H - 3) D (dc + 30) 813 (dt + 30) 40) (hlv : cnt s0 63 = lv) (hR0 : RP χ n t r pz f0 vo0 Op Oa Ou Ez Oz c0 s0) (hB : BS χ n t r f0 vo0 Op Oa Ou E 60 O c0 s0 N 7 [(a, x, H, D, W)] p f vo c s) (h68 : tA s 68 N = Int32.ofNat k) (hk : k < cnt s 60) (hk9 : k ≤ 399) (hnm : nm b (tB s 61 k)) (hs : tI s 8 = 5 ∧ tI s 11 = 40) (hF : ∀ y, FH (kT y))
    (k1 : cNx c + 10 + 300 * (n - f) ≤ cNx c0 + 300 * (n - f0)) (k2 : cSl c + 10 + 2000 * (n - f) ≤ cSl c0 + 2000 * (n - f0))
    (hgo : ∀ a' c' s' p' f', PXo χ n t r f0 p0 vo0 Op Oa Ou E O c0 s0 H D a' N c' s' p' f' → tA s' 66 N = 7 → f < f' → PX χ n t r f0 p0 vq Opq Oaq Ouq Eq' Oq' c0 sq Hq Dq (kC (.ref a') c') (kT (Int32.ofNat N) s')) :
    PX χ n t r f0 p0 vq Opq Oaq Ouq Eq' Oq' c0 sq Hq Dq (cnw c 30 fun v42 h43 => bR (cC (dc + 31) 838 [eR (.ref r)] h43) fun v45 h44 => bV (cC (dc + 31) 3000 [eR v42, eR (.ref a), eI (Int32.ofNat k), eL b, eR v45] h44) fun h46 => cgR h46 803 (.ref r) fun v47 => cgR h46 1614 v47 fun v48 => bI (cC (dc + 31) 9105 [eR v48, eR v42] h46) fun v50 h49 => kC v42 h49)
      (bI (cT (dt + 31) 73 [eR (.ref 0), eI (Int32.ofNat N)] s) fun v7 h6 => tsaI h6 69 (Int32.ofNat N) v7 fun h8 => kT (Int32.ofNat N) h8) := by
  have hz := RP_len hR0
  have hR := hB.1
  have hn := hR.2.2.1
  have hnw : cmore (csCl c (cNx c) 30) (csz 30) = nwC c 30 := rfl
  have hnx1 : cNx (nwC c 30) = cNx c + 1 := rfl
  have hnx2 : cSl (nwC c 30) = cSl c + 4 := rfl
  have hN9 : N < 900 := by have := hB.2.2.2.2.1; have := hR.2.2.2.1.2.1.2.2.2.2.1.2; omega
  have hB1 := BS_gen0 hz hB (P_new 30 hR) (KC_new hn hR.2.2.2.1.1 30) (TH_refl _ _ _ _ s) (by omega) (by omega) (Nat.le_refl _) (fun b q => nw_raw hn 30 b (hB.2.1.2.2.2.2.2.2 b q))
  rw [r_cnw, hnw]
  refine J_given (kT := fun v7 h6 => tsaI h6 69 (Int32.ofNat N) v7 fun h8 => kT (Int32.ofNat N) h8) (X := 60) dc dt hsub hlv hz hR0.2.2.1 (fun v => FH_68 hN9 69 (Or.inr rfl) hF v) hB1 hs (fun L es p' f' vo' c' s' hB2 hHD eL hlL uL h3 hff hpp hK hT' hraw ho m1 m2 hL0 => ?_)
  have ho0 : cCl c0 (cNx c) = 0 := (hR0.2.2.1 _ hB.2.1.1.1).1
  have hL00 : cCl c0 L = 0 := Decidable.byContradiction (fun z => z (by rw [← (hB1.2.1.1.2.2.1 L z).1]; exact hL0))
  have hrw : raw (nwC c 30) (cNx c, []) := Or.inl (Or.inr (Or.inr (Or.inl ⟨nw_cl c 30, ((hn _ (Nat.le_refl _)).2.1 3000 (by decide)).2.2⟩)))
  have ha2 : cCl c' (cNx c) = 30 := kc_cl hK (nw_cl c 30) (by decide)
  have hnl : ¬ live c' (cNx c) := fun q => q.2 (raw_0 (hraw _ hrw) (by rw [ha2]; decide) (by rw [ha2]; decide))
  have hB3 := BS_w (z := 69) (v := Int32.ofNat es.length) (Or.inr rfl) hz hB2 (by decide) (by decide)
  have w69 : tA (tsA s' 69 N (Int32.ofNat es.length)) 69 N = Int32.ofNat es.length := by rw [t_A_A, if_pos ⟨rfl, rfl⟩]
  have w68 : tA (tsA s' 69 N (Int32.ofNat es.length)) 68 N = Int32.ofNat k := by rw [t_A_A, if_neg (fun q => by omega), ho 68 (by simp)]; exact h68
  have w66 : tA (tsA s' 69 N (Int32.ofNat es.length)) 66 N = 7 := hB3.2.2.2.2.2.2.1
  have w60 : cnt (tsA s' 69 N (Int32.ofNat es.length)) 60 = cnt s' 60 := rfl
  have w61 : tB (tsA s' 69 N (Int32.ofNat es.length)) 61 k = tB s 61 k := hT'.2.2.2.1 k hk
  have h60 : cnt s 60 ≤ cnt s' 60 := hT'.1 60 (by simp)
  rw [qs_69 hN9]
  generalize tsA s' 69 N (Int32.ofNat es.length) = s3 at *
  have e20 := c_sn (dc + 20) (c := c') (o := cNx c) (a := a) (L := L) (k := Int32.ofNat k) (b := b) ha2
  have hcl3 := cC_cln e20 hB2.1.2.2.1
  have hch2 : CH [] [] [] [] c' (csL (csI (csR c' 3000 (cNx c) (.ref a)) 3001 (cNx c) (Int32.ofNat k)) 3002 (cNx c) b) := CH_L (Or.inr hnl) (CH_I (Or.inr hnl) (CH_R (Or.inr hnl) (CH_refl _ _ _ _ c') (by decide)))
  have hch3 : CH [] [] [] [] c' (snC c' (cNx c) a (Int32.ofNat k) b L) := CH_R0 (fun q => BD_R0 (by show cCl c' L ≠ 0; rw [eL]; decide) (hch2.2.2.2.2.2.2.2 q)) (Or.inr hnl) hch2
  have hR3 := RP_fr hch3 (TH_refl [] [] [] [] s3) (fun _ _ _ => ⟨rfl, rfl⟩) hcl3 (Nat.le_refl _) (by decide) (by decide) (by simp) hB3.1
  have hK3 := KC_of hch3 hB3.1.2.2.2.1.1 (Nat.le_refl _) (by decide)
  have hraw3 : ∀ q, raw c0 q → raw (snC c' (cNx c) a (Int32.ofNat k) b L) q := raw_sn hB2.2.1.2.2.2.2.2.2 ho0 hL00
  have g1 : cCl (snC c' (cNx c) a (Int32.ofNat k) b L) (cNx c) = 30 := ha2
  have g2 : cR (snC c' (cNx c) a (Int32.ofNat k) b L) 3000 (cNx c) = .ref a := by simp [snC, gC]
  have g3 : cR (snC c' (cNx c) a (Int32.ofNat k) b L) 3003 (cNx c) = .ref L := by simp [snC, gC]
  have g4 : cI (snC c' (cNx c) a (Int32.ofNat k) b L) 3001 (cNx c) = Int32.ofNat k := by simp [snC, gC]
  have g5 : cL (snC c' (cNx c) a (Int32.ofNat k) b L) 3002 (cNx c) = b := by simp [snC, gC]
  have g6 : cCl (snC c' (cNx c) a (Int32.ofNat k) b L) L = 5891 := eL
  have g7 : cLs (snC c' (cNx c) a (Int32.ofNat k) b L) L = (es.map Prod.fst).map .ref := hlL
  have g8 : cNx (snC c' (cNx c) a (Int32.ofNat k) b L) = cNx c' := rfl
  have g9 : cSl (snC c' (cNx c) a (Int32.ofNat k) b L) = cSl c' := rfl
  rw [e20, b_V]
  generalize snC c' (cNx c) a (Int32.ofNat k) b L = c3 at *
  have hS3 := hR3.2.2.2.1.1
  have hU3 := hR3.2.2.2.1.2.2.2.2.2.1
  have hI3 := hR3.2.2.2.1.2.2.2.2.2.2.2.1
  have hcap := RUt_cap hU3 hI3.1.2.1
  have c64 : cnt s3 64 = cnt s0 64 := hB3.2.2.2.2.2.1.2.2.2.2
  obtain ⟨⟨K7, f10, ⟨X7, hX7, f11⟩, _⟩, _⟩ := (hR3.2.2.2.1.2.2.2.2.2.2.2.2.1.2 (cnt s3 64) hI3.1.2.1).2.2.2.2.2.2.2.2.2
  have hK7 : K7 ≤ 900 := Nat.le_trans (injK_le _ K7 X7 hX7 (fun i hi => (f11 i hi).1)) hR3.2.2.2.1.2.1.2.2.2.2.1.2
  have hlen7 : (cLs c3 (lid c3 (r + 8) (cnt s3 64) + 3)).length = K7 := f10.1
  obtain ⟨c4, e21, hLA⟩ := c_add (dc + 22) hcap.2.1 rfl (by omega) (.ref (cNx c))
  have hcl4 := cC_cln e21 hR3.2.2.1
  obtain ⟨r1, r2, r3, r4, r5⟩ := BS_root hB3 (by decide)
  have hNo : ¬ Op N := fun q => by have := (hR0.2.2.2.2.2.2.1 _ q).2; have := hB.2.2.2.1; omega
  have c68 := ca_of w68 (by omega)
  rw [← c64] at r3
  obtain ⟨hR4, hK4, hraw4⟩ := P_close7 (o := cNx c) (L := L) (a1 := a) hR3 hNo r5 r3 hLA hcl4 g1 (by rw [c68]; omega) (by rw [c68, g5, w61]; exact hnm) g2 g3 g6 (by rw [g7, List.length_map, List.length_map]; exact w69)
  rw [r_cgR, if_pos hS3.1, hI3.1.2.2, r_cgR, if_pos hcap.2.2.2, (hU3.2.2 _ hI3.1.2.1).2.2.2.1.2.2.1, e21, b_I]
  have hl3 : (cLs c' (r + 8)).length ≤ (cLs c3 (r + 8)).length := by rw [RP_len hB3.1, RP_len hR3]; exact Nat.le_refl _
  have hK5 : KC r c' c4 := KC_trans hl3 hK3 hK4
  have hl8 := hLA.1.2.1
  have hl9 := hLA.1.2.2.2
  obtain ⟨i1, i2, i3, _, _, i6, _⟩ := hLA.2.1
  have i9 := hLA.2.2.2
  obtain ⟨g', hg⟩ := BS_kids hB3 hK5
  obtain ⟨q1, q2, q3⟩ := hg (a, x, H, D, W) (by simp)
  have hlnk := hB3.2.2.2.2.2.2.2.2.2.1
  rw [List.cons_append, List.nil_append, List.map_cons] at hlnk
  obtain ⟨j1, j2, j3⟩ := hlnk
  have hch := L_chn (T := fun b y W => (cnt s0 65 ≤ y ∧ y < cnt s3 65 ∧ y ≠ N) ∧ TR g' (fun q => cnt s0 65 ≤ q ∧ q < cnt s3 65 ∧ q ≠ N) r c4 s3 (cnt s0 64) (H - 3) D b y W) _ _ j3 (fun e he => by
    obtain ⟨i1, i2, i3⟩ := hg e (by simp [he])
    rw [(hHD e he).1, (hHD e he).2] at i3
    exact ⟨i1, i3⟩)
  have hLne : L ≠ lid c3 (r + 8) (cnt s3 64) + 3 := by rintro rfl; rw [hcap.2.1] at g6; exact absurd g6 (by decide)
  refine hgo (cNx c) _ _ p' f' (BS_fin (g := g' + 1) hz (by omega) hB3 (by rw [← Nat.add_assoc]; exact hR4) hK5 (by omega) (by omega) (fun q hq => hraw4 q (hraw3 q hq)) ?_) w66 hff
  rw [c64] at r3
  refine Or.inr ⟨r1, r2, r3, r4, by omega, by omega, ?_⟩
  exact Or.inr (Or.inr (Or.inr (Or.inr (Or.inr (Or.inr (Or.inl ⟨by rw [i6]; exact g1, r5, aok_of w68 (by omega) hk9, by rw [c68]; omega, by rw [i1, g4, w68], by rw [c68, i2, g5, w61]; exact hnm, hH, by omega, a, L, es.map Prod.fst, x, W, sW es, by rw [i3]; exact g2, by rw [i3]; exact g3, by rw [i6]; exact g6, by rw [i9 L hLne]; exact g7, by rw [List.length_map]; exact h3, by rw [List.length_map]; exact w69, j1, j2, q2, q1, q3, hch, by show W + sW es + 12 ≤ 60 + (W + sW es); omega⟩))))))
end
