set_option maxRecDepth 100000
set_option maxHeartbeats 4000000
/-! D67: lists under construction: a list is begun, is added to; a row's part -/
section
variable {χ : Nat → Int32} {n t r p f : Nat} {vo : Nat → Nat} {Op Oa Ou : Nat → Prop} {E O : Nat} {c c' : cS} {s : tS} {L : Nat} {l : List Value}
theorem RSt_bd (hS : RSt r c) : BD c := by obtain ⟨s1, s2, s3, s4, s5, ⟨a1, a2, a3, a4, a5, a6, a7, a8⟩, b1, b2, b3, b4, b5, b6, b7, b8, b9⟩ := hS; exact b9.2
theorem raw_cl0 {b : Nat × List Value} (h : raw c b) : cCl c b.1 ≠ 0 := by
  rcases h with q | ⟨q, _⟩
  · rcases q with q | q | q | q <;> rw [q.1] <;> decide
  · rcases q with q | q <;> rw [q] <;> decide
theorem own_kc (h : LA c L l c') (e : cCl c L = 5890 ∨ cCl c L = 5891) (hu : unr c L) (hS : RSt r c) : KC r c c' := by
  obtain ⟨⟨h1, _, h3, _⟩, ⟨e1, e2, e3, e4, e5, e6, e7⟩, _, h4⟩ := h
  have h8 : r + 8 ≠ L := by
    rintro rfl
    have := RSt_uL hS
    omega
  exact ⟨h1, h3, fun b _ => ⟨by rw [e6], by rw [e7]⟩, fun x b _ _ => by rw [e1], fun x b _ _ => by rw [e2], fun x b _ _ _ => by rw [e3], fun b _ hn => h4 b (by rintro rfl; exact hn hu), ⟨fun b j _ => by rw [e5], fun b i e' q => by rw [h4 b (by rintro rfl; omega)]; exact ⟨q, fun _ => rfl⟩, fun b _ q => by rw [e1]; exact q⟩, fun k _ => by unfold lid; rw [h4 _ h8]⟩
theorem own_raw (h : LA c L l c') {b : Nat × List Value} (hb : b.1 ≠ L) (q : raw c b) : raw c' b := by
  obtain ⟨_, ⟨e1, e2, e3, e4, e5, e6, e7⟩, _, h4⟩ := h
  rcases q with q | ⟨q1, q2, q3⟩
  · left; unfold raw0 at q ⊢; rw [e6, e3]; exact q
  · right
    refine ⟨by rw [e6]; exact q1, by rw [h4 _ hb]; exact q2, fun o => ?_⟩
    rw [e6, e3]; exact q3 o
theorem own_unr (h : LA c L l c') (hu : unr c L) : unr c' L := fun o => by
  obtain ⟨_, ⟨e1, e2, e3, e4, e5, e6, e7⟩, _, h4⟩ := h
  rw [e6, e3]; exact hu o
theorem RP_own (h : LA c L l c') (e : cCl c L = 5890) (hu : unr c L) (hn : CLN c') (hP : RP χ n t r p f vo Op Oa Ou E O c s) : RP χ n t r p f vo Op Oa Ou E O c' s := by
  obtain ⟨hL, hfi, _, ⟨hS, hC, hG, hLm, hM, hU, hV, hI, hF, hA', hB⟩, hN, hOu, hOp, hOa, hOu2⟩ := hP
  have hch := LA_ch h e
  have hth := TH_refl [] [] [] [] s
  have hKC := own_kc h (Or.inl e) hu hS
  have e3 : cR c' = cR c := h.2.1.2.2.1
  exact ⟨LX_ch hch hth (by rw [h.2.1.2.2.2.1]) (by rw [h.2.1.2.2.2.2.1]) (by decide) hL, hfi, hn, ⟨RSt_fr hch (by decide) hS, RCt_fr hch hth hS (by decide) hC, RGt_fr hch hth hS (by decide) hG, RLt_fr hch hth hS (by decide) hLm, RMt_fr hch hth hS (by decide) (by decide) hM, RUt_fr hch hth hS (by decide) (by decide) hU, RVt_fr hch hth hS hU (by decide) hV, RIt_fr hch hth hS hV (by decide) hI, RFt_fr hch hth hS hU (by decide) hF, RAt_fr hch hth hS (by decide) hA', RBt_mono hKC (KT_refl s) hU.2.1.1 (fun v hv => (hV.2.1 v hv).2.2.1) rfl (Nat.le_refl _) (fun k _ _ => by rw [e3]) (fun _ _ _ => rfl) (fun _ _ _ _ _ => rfl) hB⟩, hN, hOu, hOp, hOa, hOu2⟩
/-- an empty list of a row -/
theorem own_new (d : Nat) (hR : RP χ n t r p f vo Op Oa Ou E O c s) : cC (d + 9) 9101 [eR (.ref (cNx c)), eI 2] (nwC c 10890) = some (.inl none, nlC c 5890 2) ∧ RP χ n t r p f vo Op Oa Ou E O (nlC c 5890 2) s ∧ KC r c (nlC c 5890 2) ∧ (∀ b, raw c b → raw (nlC c 5890 2) b) ∧ cCl (nlC c 5890 2) (cNx c) = 5890 ∧ cLs (nlC c 5890 2) (cNx c) = [] ∧ unr (nlC c 5890 2) (cNx c) ∧ cNx (nlC c 5890 2) = cNx c + 2 ∧ cSl (nlC c 5890 2) = cSl c + 5 := by
  have hn := hR.2.2.1
  have hS := hR.2.2.2.1.1
  have h0 := hn _ (Nat.le_refl _)
  have e1 := c_nl (c := c) d (k := 5890) (m := 2) rfl (by decide) (by decide)
  have hfr : FR c (nlC c 5890 2) := FR_nl h0.1 (FR_refl c)
  have hnf : NF c (nlC c 5890 2) := NF_nl (by decide) (NF_refl c)
  have hcl : CLN (nlC c 5890 2) := cC_cln e1 (P_new 10890 hR).2.2.1
  refine ⟨e1, RP_FR hfr hnf hcl hR, FR_kc hfr hnf hS, FR_raw hfr hnf, nl_cl c 5890 2, h0.2.2.2.1, fun o => ?_, rfl, by show cSl c + csz 10890 + 2 = _; rw [show csz 10890 = 3 from rfl]⟩
  have hb := RSt_bd hS
  have key : ∀ x, bdx (cCl (nlC c 5890 2) o) x → cR (nlC c 5890 2) x o ≠ .ref (cNx c) := fun x hk z => by
    by_cases q : o = cNx c
    · rw [q, nl_cl] at hk; unfold bdx at hk; omega
    · rw [nl_old q] at hk
      exact hb o x _ hk z h0.1
  exact ⟨fun w => key 2700 (Or.inl ⟨w, rfl⟩), fun w _ => key 3003 (Or.inr (Or.inl ⟨w, rfl⟩)), fun w => key 3201 (Or.inr (Or.inr ⟨w, rfl⟩))⟩
/-- the list is added to -/
theorem own_add (d : Nat) (hR : RP χ n t r p f vo Op Oa Ou E O c s) (e : cCl c L = 5890) (hu : unr c L) (hl : (cLs c L).length < 1000000) (v : Value) :
    ∃ c', cC (d + 9) 9105 [eR (.ref L), eR v] c = some (.inl (some (eI 1)), c') ∧ LA c L (cLs c L ++ [v]) c' ∧ (∀ p f vo Op Oa Ou E O, RP χ n t r p f vo Op Oa Ou E O c s → RP χ n t r p f vo Op Oa Ou E O c' s) ∧ KC r c c' ∧ cCl c' L = 5890 ∧ cLs c' L = cLs c L ++ [v] ∧ unr c' L := by
  obtain ⟨c', e1, hLA⟩ := c_add d e rfl hl v
  have hcl := cC_cln e1 hR.2.2.1
  exact ⟨c', e1, hLA, fun _ _ _ _ _ _ _ _ h => RP_own hLA e hu hcl h, own_kc hLA (Or.inl e) hu hR.2.2.2.1.1, by rw [hLA.2.1.2.2.2.2.2.1]; exact e, hLA.2.2.1, own_unr hLA hu⟩
/-- a row's part -/
def rwC (c : cS) (L : Nat) : cS := csR (nwC c 27) 2700 (cNx c) (.ref L)
theorem c_rw (d : Nat) : cC (d + 11) 2700 [eR (.ref (cNx c)), eR (.ref L)] (nwC c 27) = some (.inl none, rwC c L) := by
  have ha := nw_cl c 27
  rw [kX27_init, r_cck, if_pos ha, uX27_init, kX18_init, uX18_init]
  simp only [pP, ha, show misR (.ref L) = true from rfl, rC, bB, Nat.reduceDiv, Nat.reduceLeDiff, Nat.reduceLT,  eq_self, if_true, if_false, true_and, and_true, false_and, and_false, or_true, true_or, or_false, false_or, reduceIte, reduceCtorEq, Nat.reduceEqDiff, not_true_eq_false, not_false_eq_true, r_misN, r_misR, gC]
  rfl
theorem BD_R0 {x a : Nat} (hv : cCl c L ≠ 0) (h : BD c) : BD (csR c x a (.ref L)) := by
  intro o y M hk e
  rw [g_R_R] at e
  by_cases q : y = x ∧ o = a
  · rw [if_pos q] at e
    cases e
    exact hv
  · rw [if_neg q] at e
    exact h o y M hk e
theorem rw_facts (d : Nat) (hR : RP χ n t r p f vo Op Oa Ou E O c s) (e : cCl c L = 5890) : (∀ p f vo Op Oa Ou E O, RP χ n t r p f vo Op Oa Ou E O c s → RP χ n t r p f vo Op Oa Ou E O (rwC c L) s) ∧ KC r c (rwC c L) ∧ (∀ b : Nat × List Value, b.1 ≠ L → raw c b → raw (rwC c L) b) ∧ cCl (rwC c L) (cNx c) = 27 ∧ cR (rwC c L) 2700 (cNx c) = .ref L ∧ cCl (rwC c L) L = 5890 ∧ cLs (rwC c L) L = cLs c L ∧ cNx (rwC c L) = cNx c + 1 ∧ cSl (rwC c L) = cSl c + 1 := by
  have hn := hR.2.2.1
  have hS := hR.2.2.2.1.1
  have h0 := (hn _ (Nat.le_refl _)).1
  have hLn : L ≠ cNx c := by rintro rfl; rw [h0] at e; cases e
  have eL : cCl (nwC c 27) L = 5890 := by
    show cCl (csCl c (cNx c) 27) L = _
    rw [g_Cl_Cl, if_neg hLn]; exact e
  have hch : CH [] [] [] [] c (rwC c L) := CH_R0 (fun q => BD_R0 (by rw [eL]; decide) ((nw_ch hn 27).2.2.2.2.2.2.2 q)) (Or.inr fun q => q.1 h0) (nw_ch hn 27)
  have hcl : CLN (rwC c L) := cC_cln (c_rw d) (P_new 27 hR).2.2.1
  refine ⟨fun _ _ _ _ _ _ _ _ h => RP_fr hch (TH_refl [] [] [] [] _) (fun _ _ _ => ⟨rfl, rfl⟩) hcl (by show cSl c ≤ cSl c + _; omega) (by decide) (by decide) (by simp) h, KC_R h0 (KC_new hn hS 27), fun b hb q => ?_, nw_cl c 27, by simp [rwC, gC], eL, rfl, rfl, rfl⟩
  rcases nw_raw hn 27 b q with w | ⟨w1, w2, w3⟩
  · left
    unfold raw0 at w ⊢
    have k : ∀ x, x ≠ 2700 → cR (rwC c L) x b.1 = cR (nwC c 27) x b.1 := fun x hx => by
      show cR (csR (nwC c 27) 2700 (cNx c) (.ref L)) x b.1 = _
      rw [g_R_R, if_neg (fun z => hx z.1)]
    rw [k 3301 (by decide), k 3100 (by decide), k 3000 (by decide), k 2000 (by decide)]
    exact w
  · refine Or.inr ⟨w1, w2, fun o => ?_⟩
    have k : ∀ x, x ≠ 2700 → cR (rwC c L) x o = cR (nwC c 27) x o := fun x hx => by
      show cR (csR (nwC c 27) 2700 (cNx c) (.ref L)) x o = _
      rw [g_R_R, if_neg (fun z => hx z.1)]
    rw [k 3000 (by decide), k 3003 (by decide), k 3201 (by decide)]
    refine ⟨fun z => ?_, (w3 o).2⟩
    show cR (csR (nwC c 27) 2700 (cNx c) (.ref L)) 2700 o ≠ _
    rw [g_R_R]
    by_cases y : o = cNx c
    · rw [if_pos ⟨rfl, y⟩]
      intro w
      cases w
      exact hb rfl
    · rw [if_neg (fun w => y w.2)]
      exact (w3 o).1 z
/-- the same node at a heap behind, under a part that may be another -/
theorem PXo_up {p0 f0 H D a a' x : Nat} {vo0 : Nat → Nat} {c0 : cS} {s0 : tS} (hz : (cLs c0 (r + 8)).length = cnt s0 35) (hX : PXo χ n t r f0 p0 vo0 Op Oa Ou E O c0 s0 H D a x c s p f) (hgo : ∀ p f vo Op Oa Ou E O, RP χ n t r p f vo Op Oa Ou E O c s → RP χ n t r p f vo Op Oa Ou E O c' s) (hKC : KC r c c')
    (h1 : cNx c' + 300 * (n - f) ≤ cNx c0 + 300 * (n - f0)) (h2 : cSl c' + 2000 * (n - f) ≤ cSl c0 + 2000 * (n - f0)) (hraw : ∀ b, raw c0 b → raw c' b) (hT : ∀ g W, TR g (fun y => cnt s0 65 ≤ y ∧ y < cnt s 65 ∧ y ≠ x) r c' s (cnt s0 64) H D a x W → ∃ g', TR g' (fun y => cnt s0 65 ≤ y ∧ y < cnt s 65 ∧ y ≠ x) r c' s (cnt s0 64) H D a' x W) : PXo χ n t r f0 p0 vo0 Op Oa Ou E O c0 s0 H D a' x c' s p f := by
  obtain ⟨vo, g, W, hR, hST, hvo, hx0, hx1, hTR, h71, hKS, hpf⟩ := hX
  have hu : cnt s0 64 < cnt s 35 := by
    rw [← hKS.2.2.2.2]
    exact hR.2.2.2.1.2.2.2.2.2.2.2.1.1.2.1
  have hT2 := TR_mono hKC (KT_refl s) (RP_len hR) (fun v hv => (hR.2.2.2.1.2.2.2.2.2.2.1.2.1 v hv).2.2.1) (fun _ _ _ _ => rfl) hu g _ _ _ _ _ (fun _ _ => rfl) hTR
  obtain ⟨g', hT3⟩ := hT _ _ hT2
  exact ⟨vo, g', W, hgo _ _ _ _ _ _ _ _ hR, ⟨KC_trans (ST_lz hz hR hST) hST.1 hKC, hST.2.1, hST.2.2.1, h1, h2, hST.2.2.2.2.2.1, hraw⟩, hvo, hx0, hx1, hT3, h71, hKS, hpf⟩
/-- told from a state before -/
theorem PXo_base {p0 f0 pE fE H D a x : Nat} {vo0 voE : Nat → Nat} {c0 cE : cS} {s0 sE : tS} (hz0 : (cLs c0 (r + 8)).length = cnt s0 35) (hzE : (cLs cE (r + 8)).length = cnt sE 35) (hSE : ST n r f0 c0 s0 fE cE sE) (hvE : ∀ v, v < cnt s0 50 → voE v = vo0 v) (hKE : KS s0 sE) (hp : p0 ≤ pE)
    (hX : PXo χ n t r fE pE voE Op Oa Ou E O cE sE H D a x c s p f) : PXo χ n t r f0 p0 vo0 Op Oa Ou E O c0 s0 H D a x c s p f := by
  obtain ⟨vo, g, W, hR, hST, hvo, hx0, hx1, hTR, h71, hKS, hpf⟩ := hX
  have h65 : cnt s0 65 ≤ cnt sE 65 := hSE.2.1.1 65 (by simp)
  have h64 : cnt sE 64 = cnt s0 64 := hKE.2.2.2.2
  rw [h64] at hTR
  exact ⟨vo, g, W, hR, ST_trans (by rw [hz0, hzE]; exact hSE.2.1.1 35 (by simp)) hSE hST, fun v hv => (hvo v (Nat.lt_of_lt_of_le hv (hSE.2.1.1 50 (by simp)))).trans (hvE v hv), by omega, hx1, TR_Q (fun q hq => ⟨by omega, hq.2⟩) _ _ _ _ _ _ _ hTR, h71, KS_trans hKE hKS, by omega⟩
section
variable {f0 p0 : Nat} {vo0 : Nat → Nat} {X N K : Nat} {Ls : List cE} {c0 : cS} {s0 : tS} {vq : Nat → Nat} {Opq Oaq Ouq : Nat → Prop} {Eq' Oq' : Nat} {sq : tS} {Hq Dq : Nat} {kC : cS → cRes} {kT kZ : tS → tR}
/-- a part is counted at a node under way -/
theorem B_part (dc dt : Nat) (hz : (cLs c0 (r + 8)).length = cnt s0 35) (hB : BS χ n t r f0 vo0 Op Oa Ou E X O c0 s0 N K Ls p f vo c s) (hF : FH kZ)
    (hgo : BS χ n t r f0 vo0 Op Oa Ou E (X + 60) O c0 s0 N K Ls p f vo (ptC c r) (ptT s) → PX χ n t r f0 p0 vq Opq Oaq Ouq Eq' Oq' c0 sq Hq Dq (kC (ptC c r)) (kT (ptT s))) :
    PX χ n t r f0 p0 vq Opq Oaq Ouq Eq' Oq' c0 sq Hq Dq (bV (cC (dc + 15) 818 [eR (.ref r)] c) kC) (bI (cT (dt + 3) 46 [eR (.ref 0)] s) fun v h => if v = 0 then kZ h else kT h) := by
  have r1 := hB.2.1.2.2.2.1
  have r2 := hB.2.1.2.2.2.2.1
  rcases P_part dc dt hB.1 with ⟨a9, c9, s9, k9, pl9, w1, w2, w3, w4, w5, w6, w7, w8⟩ | ⟨e1, e2, hR1, hST1, hc1⟩
  · left
    obtain ⟨q, s'', q1, q2, q3⟩ := hF s9 (by rw [w4]; exact w6)
    rw [w1, w2, b_Vx, b_I, if_pos rfl, q1]
    exact ⟨a9, c9, q, s'', k9, pl9, rfl, rfl, w3, by rw [q2]; exact w4, by rw [q3]; exact w5, w6, by omega, by omega⟩
  · rw [e1, b_V, e2, b_I, if_neg (by decide)]
    have e : E + X + sW Ls + 60 = E + (X + 60) + sW Ls := by omega
    rw [e] at hR1
    exact hgo (BS_go hz hB hR1 hST1.1 hST1.2.1 (fun _ _ => rfl) (fun y hy z hz' _ => hST1.2.2.1 y hy z hz') (TH_refl _ _ _ _ s0) hB.2.2.2.2.2.1 r1 r2 hB.2.1.2.2.2.2.2.1 (fun b q => hB.2.1.2.2.2.2.2.2 b q))
/-- an own list is added to at a node under way -/
theorem BS_own (d : Nat) (hz : (cLs c0 (r + 8)).length = cnt s0 35) (hB : BS χ n t r f0 vo0 Op Oa Ou E X O c0 s0 N K Ls p f vo c s) (e : cCl c L = 5890) (hu : unr c L) (hl : (cLs c L).length < 1000000) (h0 : cCl c0 L = 0) (v : Value)
    (h1 : cNx c + 1 + 300 * (n - f) ≤ cNx c0 + 300 * (n - f0)) (h2 : cSl c + 10 + 2 * (cLs c L).length + 2000 * (n - f) ≤ cSl c0 + 2000 * (n - f0)) :
    ∃ c', cC (d + 9) 9105 [eR (.ref L), eR v] c = some (.inl (some (eI 1)), c') ∧ BS χ n t r f0 vo0 Op Oa Ou E X O c0 s0 N K Ls p f vo c' s ∧ KC r c c' ∧ cCl c' L = 5890 ∧ cLs c' L = cLs c L ++ [v] ∧ unr c' L ∧ cNx c' ≤ cNx c + 1 ∧ cSl c' ≤ cSl c + 10 + 2 * (cLs c L).length := by
  obtain ⟨c', e1, hLA⟩ := c_add d e rfl hl v
  have hcl := cC_cln e1 hB.1.2.2.1
  have hKC := own_kc hLA (Or.inl e) hu hB.1.2.2.2.1.1
  have r1 := hLA.1.2.1
  have r2 := hLA.1.2.2.2
  exact ⟨c', e1, BS_go hz hB (RP_own hLA e hu hcl hB.1) hKC (KT_refl s) (fun _ _ => rfl) (fun _ _ _ _ _ => rfl) (TH_refl _ _ _ _ s0) hB.2.2.2.2.2.1 (by omega) (by omega) hB.2.1.2.2.2.2.2.1 (fun b q => own_raw hLA (by rintro rfl; exact raw_cl0 q h0) (hB.2.1.2.2.2.2.2.2 b q)), hKC, by rw [hLA.2.1.2.2.2.2.2.1]; exact e, hLA.2.2.1, own_unr hLA hu, r1, r2⟩
end
end
