set_option maxRecDepth 100000
set_option maxHeartbeats 4000000
/-! D103: steps to any target that faults lead to (printed by gen_g.py) -/
section
variable {χ : Nat → Int32} {n t r : Nat} {Op Oa Ou : Nat → Prop} {E O : Nat} {L : Nat}
variable {f0 p0 : Nat} {vo0 : Nat → Nat} {N : Nat} {c0 : cS} {s0 : tS} {G : cRes → tR → Prop}
theorem B_nextG {Op : Nat → Prop} {E X N K p f : Nat} {L : List cE} {c : cS} {s : tS} {vo : Nat → Nat} {kC : cS → cRes} {kT : tS → tR} (hG : ∀ rc rt, pB n f0 c0 rc rt → G rc rt) (dc dt : Nat) (hz : (cLs c0 (r + 8)).length = cnt s0 35) (hB : BS χ n t r f0 vo0 Op Oa Ou E X O c0 s0 N K L p f vo c s) (hF : FH kT)
    (hgo : ∀ c' s' p' f', BS χ n t r f0 vo0 Op Oa Ou E X O c0 s0 N K L p' f' vo c' s' → WK χ n t r p vo (fun y => Op y ∨ y = N) Oa Ou (E + X + sW L) O c s c' s' p' f' → p ≤ f' → cNx c' + 300 * (n - f') ≤ cNx c + 300 * (n - f) → cSl c' + 2000 * (n - f') ≤ cSl c + 2000 * (n - f) → f ≤ f' → (tI s 8 ≠ 0 → f < f' ∧ cNx c' + 300 * (n - f') + 298 ≤ cNx c + 300 * (n - f) ∧ cSl c' + 2000 * (n - f') + 1992 ≤ cSl c + 2000 * (n - f)) → G (kC c') (kT s')) :
    G (bV (cC (dc + 20) 1001 [eR (.ref (r + 16))] c) kC) (bV (cT (dt + 20) 6 [eR (.ref 0)] s) kT) := by
  rcases P_next dc dt hB.1 with hb | ⟨c2, s3, p3, f3, e5, e6, hW⟩
  · refine hG _ _ ?_
    exact j_lx hb (f1 := f) (by have := hB.2.1.2.2.2.1; omega) (by have := hB.2.1.2.2.2.2.1; omega) hF
  · obtain ⟨hB3, hp3⟩ := BS_tok hz hB hW
    obtain ⟨hS, hS2⟩ := WK_ST hB.1 hW
    rw [e5, e6, b_V, b_V]
    exact hgo c2 s3 p3 f3 hB3 hW hp3 hS.2.2.2.1 hS.2.2.2.2.1 hS.2.2.2.2.2.1 hS2
theorem B_kidSG {Op : Nat → Prop} {E X N K p f : Nat} {L : List cE} {c : cS} {s : tS} {vo : Nat → Nat} {kT : tS → tR} (hG : ∀ rc rt, pB n f0 c0 rc rt → G rc rt) (d : Nat) {H D : Nat} {rc : cRes} {rt : tR} {kR : Value → cS → cRes} (hz : (cLs c0 (r + 8)).length = cnt s0 35) (hB : BS χ n t r f0 vo0 Op Oa Ou E X O c0 s0 N K L p f vo c s)
    (hX : PX χ n t r f p vo (fun y => Op y ∨ y = N) Oa Ou (E + X + sW L) O c s H D rc rt) (hF : FH kT)
    (hgo : ∀ a y W vo' c' s' p' f', BS χ n t r f0 vo0 Op Oa Ou E X O c0 s0 N K (L ++ [(a, y, H, D, W)]) p' f' vo' c' s' → p ≤ f' → f ≤ f' → cNx c' + 300 * (n - f') ≤ cNx c + 300 * (n - f) → cSl c' + 2000 * (n - f') ≤ cSl c + 2000 * (n - f) → KC r c c' → KT s s' → (∀ v, v < cnt s 50 → vo' v = vo v) → (∀ b, raw c b → raw c' b) → (∀ z, z ∈ [66, 67, 68, 69] → tA s' z N = tA s z N) → K1 s s' → G (kR (.ref a) c') (kT s')) :
    G (bR rc kR) (bI rt fun v h => bV (cT (d + 2) 49 [eR (.ref 0), eI (Int32.ofNat N), eI v] h) kT) := by
  rcases hX with hb | ⟨a1, y1, c3, s4, p4, f4, e7, e8, hX1⟩
  · refine hG _ _ ?_
    exact j_px hb (by have := hB.2.1.2.2.2.1; omega) (by have := hB.2.1.2.2.2.2.1; omega) (fun x s' q2 => by
      obtain ⟨q, s'', g1, g2, g3⟩ := hF s' q2
      exact ⟨q, s'', by rw [F_gets d _ _ q2, b_V, g1], g2, g3⟩)
  · obtain ⟨W1, vo1, s5, e9, hB4, hp4, hs5, hvo4⟩ := BS_childX d hz hB hX1
    rw [e7, e8, b_R, b_I, e9, b_V]
    obtain ⟨_, _, _, _, hST, _, _, _, _, _, hKS1, _⟩ := hX1
    have hgt := gt_th s4 N y1 (L.map cEy)
    rw [← hs5] at hgt
    exact hgo a1 y1 W1 vo1 c3 s5 p4 f4 hB4 hp4 hST.2.2.2.2.2.1 hST.2.2.2.1 hST.2.2.2.2.1 hST.1 (KT_trans hST.2.1 (KT_of hgt (by decide))) hvo4 hST.2.2.2.2.2.2 (fun z hz' => by
      rw [th_A hgt (by simp only [List.mem_cons, List.not_mem_nil, or_false] at hz' ⊢; omega) N, hST.2.2.1 N hB.2.2.2.2.1 z (by simp only [List.mem_cons, List.not_mem_nil, or_false] at hz' ⊢; omega)]) (K1_trans hKS1.1 (K1_th hgt (by decide)))
theorem B_kidG {Op : Nat → Prop} {E X N K p f : Nat} {L : List cE} {c : cS} {s : tS} {vo : Nat → Nat} {kT : tS → tR} (hG : ∀ rc rt, pB n f0 c0 rc rt → G rc rt) (d : Nat) {H D : Nat} {rc : cRes} {rt : tR} {kR : Value → cS → cRes} (hz : (cLs c0 (r + 8)).length = cnt s0 35) (hB : BS χ n t r f0 vo0 Op Oa Ou E X O c0 s0 N K L p f vo c s)
    (hX : PX χ n t r f p vo (fun y => Op y ∨ y = N) Oa Ou (E + X + sW L) O c s H D rc rt) (hF : FH kT)
    (hgo : ∀ a y W vo' c' s' p' f', BS χ n t r f0 vo0 Op Oa Ou E X O c0 s0 N K (L ++ [(a, y, H, D, W)]) p' f' vo' c' s' → p ≤ f' → f ≤ f' → cNx c' + 300 * (n - f') ≤ cNx c + 300 * (n - f) → cSl c' + 2000 * (n - f') ≤ cSl c + 2000 * (n - f) → KC r c c' → KT s s' → (∀ v, v < cnt s 50 → vo' v = vo v) → (∀ b, raw c b → raw c' b) → (∀ z, z ∈ [66, 67, 68, 69] → tA s' z N = tA s z N) → G (kR (.ref a) c') (kT s')) :
    G (bR rc kR) (bI rt fun v h => bV (cT (d + 2) 49 [eR (.ref 0), eI (Int32.ofNat N), eI v] h) kT) :=
  B_kidSG hG d hz hB hX hF (fun a y W vo' c' s' p' f' h1 h2 h3 h4 h5 h6 h7 h8 h9 h10 _ => hgo a y W vo' c' s' p' f' h1 h2 h3 h4 h5 h6 h7 h8 h9 h10)
theorem B_partG {Ls : List cE} {X N K p f : Nat} {c : cS} {s : tS} {vo : Nat → Nat} {kC : cS → cRes} {kT kZ : tS → tR} (hG : ∀ rc rt, pB n f0 c0 rc rt → G rc rt) (dc dt : Nat) (hz : (cLs c0 (r + 8)).length = cnt s0 35) (hB : BS χ n t r f0 vo0 Op Oa Ou E X O c0 s0 N K Ls p f vo c s) (hF : FH kZ)
    (hgo : BS χ n t r f0 vo0 Op Oa Ou E (X + 60) O c0 s0 N K Ls p f vo (ptC c r) (ptT s) → G (kC (ptC c r)) (kT (ptT s))) :
    G (bV (cC (dc + 15) 818 [eR (.ref r)] c) kC) (bI (cT (dt + 3) 46 [eR (.ref 0)] s) fun v h => if v = 0 then kZ h else kT h) := by
  have r1 := hB.2.1.2.2.2.1
  have r2 := hB.2.1.2.2.2.2.1
  rcases P_part dc dt hB.1 with ⟨a9, c9, s9, k9, pl9, w1, w2, w3, w4, w5, w6, w7, w8⟩ | ⟨e1, e2, hR1, hST1, hc1⟩
  · refine hG _ _ ?_
    obtain ⟨q, s'', q1, q2, q3⟩ := hF s9 (by rw [w4]; exact w6)
    rw [w1, w2, b_Vx, b_I, if_pos rfl, q1]
    exact ⟨a9, c9, q, s'', k9, pl9, rfl, rfl, w3, by rw [q2]; exact w4, by rw [q3]; exact w5, w6, by omega, by omega⟩
  · rw [e1, b_V, e2, b_I, if_neg (by decide)]
    have e : E + X + sW Ls + 60 = E + (X + 60) + sW Ls := by omega
    rw [e] at hR1
    exact hgo (BS_go hz hB hR1 hST1.1 hST1.2.1 (fun _ _ => rfl) (fun y hy z hz' _ => hST1.2.2.1 y hy z hz') (TH_refl _ _ _ _ s0) hB.2.2.2.2.2.1 r1 r2 hB.2.1.2.2.2.2.2.1 (fun b q => hB.2.1.2.2.2.2.2.2 b q))
theorem row_endG {kC : Value → cS → cRes} {kT : Int32 → tS → tR} (hG : ∀ rc rt, pB n f0 c0 rc rt → G rc rt) (dc dt : Nat) {H D X p f : Nat} {vo : Nat → Nat} {Ls : List cE} {c : cS} {s : tS} (hH : 1 ≤ H) (hz : (cLs c0 (r + 8)).length = cnt s0 35) (h0 : cCl c0 L = 0)
    (hgo : ∀ a x c' s' p' f', PXo χ n t r f0 p0 vo0 Op Oa Ou E O c0 s0 H D a x c' s' p' f' → G (kC (.ref a) c') (bV (cT (dt + 30) 26 [eR (.ref 0), eI 125] s') (kT (Int32.ofNat x))))
    (hp : p0 ≤ f) (hB : BS χ n t r f0 vo0 Op Oa Ou E X O c0 s0 N 42 Ls p f vo c s) (hHD : ∀ e, e ∈ Ls → e.2.2.1 = H ∧ e.2.2.2.1 = D) (e : cCl c L = 5890) (hl : cLs c L = (Ls.map Prod.fst).map .ref) (h2 : 2 ≤ Ls.length) (hX : 60 * (Ls.length - 1) ≤ X)
    (k1 : cNx c + 1 + 300 * (n - f) ≤ cNx c0 + 300 * (n - f0)) (k2 : cSl c + 10 + 2000 * (n - f) ≤ cSl c0 + 2000 * (n - f0)) (hs : ¬ (tI s 8 = 5 ∧ tI s 11 = 59)) :
    G (bR (fX8_row_10 (cC (dc + 30)) (.ref r) (.ref L) c) kC) (bI (fX7_row_25 (cT (dt + 30)) (Int32.ofNat N) s) kT) := by
  have hR := hB.1
  have hw := hR.1.1.1.1
  have hs' : ¬ (tI s 6 = 0 ∧ tI s 8 = 5 ∧ tI s 11 = 59) := fun q => hs q.2
  have hnw : cmore (csCl c (cNx c) 27) (csz 27) = nwC c 27 := rfl
  rw [uX8_row_10, r_cgR, if_pos hR.2.2.2.1.1.1, hR.2.2.2.1.1.2.1, c_isSign (dc + 29) 59 hw, uX7_row_25, t_isSign (dt + 28)]
  simp only [lx_sgn hR.1 (x := 59) (by decide), hs, hs', and_false, decide_false, bi_f, b_I, if_true]
  rw [r_cnw, hnw, c_rw (dc + 19), b_V, b_R, a_IV]
  obtain ⟨w1, w2, w3, w4, w5, w6, w7, w8, w9⟩ := rw_facts dc hR e
  obtain ⟨g, hg⟩ := BS_kids hB w2
  obtain ⟨r1, r2, r3, r4, r5⟩ := BS_root hB (by decide)
  have hch := L_chn (T := fun b y W => (cnt s0 65 ≤ y ∧ y < cnt s 65 ∧ y ≠ N) ∧ TR g (fun q => cnt s0 65 ≤ q ∧ q < cnt s 65 ∧ q ≠ N) r (rwC c L) s (cnt s0 64) H D b y W) _ _ hB.2.2.2.2.2.2.2.2.2.1 (fun e he => by
    obtain ⟨q1, q2, q3⟩ := hg e he
    rw [(hHD e he).1, (hHD e he).2] at q3
    exact ⟨q1, q3⟩)
  refine hgo _ _ _ _ _ _ (BS_fin (g := g + 1) hz hp hB ?_ w2 (by omega) (by omega) (fun b q => w3 b (by rintro rfl; exact raw_cl0 q h0) (hB.2.1.2.2.2.2.2.2 b q)) ?_)
  · rw [← Nat.add_assoc]
    exact P_close0 (w1 _ _ _ _ _ _ _ _ hR) (by rw [r5]; decide)
  · refine Or.inr ⟨r1, r2, r3, r4, hH, by omega, ?_⟩
    exact Or.inr (Or.inr (Or.inr (Or.inr (Or.inr (Or.inr (Or.inr (Or.inr (Or.inr (Or.inr (Or.inr (Or.inr (Or.inl ⟨w4, r5, L, Ls.map Prod.fst, sW Ls, w5, w6, by rw [w7]; exact hl, by rw [List.length_map]; exact h2, hch, by rw [List.length_map]; omega⟩))))))))))))
theorem row_moreG {kC : Value → cS → cRes} {kT : Int32 → tS → tR} (hG : ∀ rc rt, pB n f0 c0 rc rt → G rc rt) (dc dt : Nat) {H D lv X p f : Nat} {vo : Nat → Nat} {Ls : List cE} {c : cS} {s : tS} (hsub : SP χ n t r Oa Ou O lv H D (dc + 30) 813 (dt + 30) 40) (hlv : cnt s0 63 = lv) (hz : (cLs c0 (r + 8)).length = cnt s0 35) (h0 : cCl c0 L = 0) (hF : ∀ x, FH (kT x))
    (hB1 : BS χ n t r f0 vo0 Op Oa Ou E X O c0 s0 N 42 Ls p f vo c s) (h8 : tI s 8 ≠ 0) (e : cCl c L = 5890) (hl : cLs c L = (Ls.map Prod.fst).map .ref) (hu : unr c L) (h24 : Ls.length ≤ 401)
    (k1 : cNx c + 300 * (n - f) ≤ cNx c0 + 300 * (n - f0)) (k2 : cSl c + 2000 * (n - f) ≤ cSl c0 + 2000 * (n - f0))
    (hgo : ∀ a y W vo' c4 s4 p4 f4, f < f4 → BS χ n t r f0 vo0 Op Oa Ou E X O c0 s0 N 42 (Ls ++ [(a, y, H, D, W)]) p4 f4 vo' c4 s4 → p ≤ f4 → cCl c4 L = 5890 → cLs c4 L = ((Ls ++ [(a, y, H, D, W)]).map Prod.fst).map .ref → unr c4 L → cNx c4 + 1 + 300 * (n - f4) ≤ cNx c0 + 300 * (n - f0) → cSl c4 + 10 + 2000 * (n - f4) ≤ cSl c0 + 2000 * (n - f0) → G (bR (fX8_row_10 (cC (dc + 30)) (.ref r) (.ref L) c4) kC) (bI (fX7_row_25 (cT (dt + 30)) (Int32.ofNat N) s4) kT)) :
    G (bV (cC (dc + 30) 1001 [eR (.ref (r + 16))] c) fun h9 => bR (bR (cC (dc + 30) 813 [eR (.ref r)] h9) fun v11 h10 => bI (cC (dc + 30) 9105 [eR (.ref L), eR v11] h10) fun _ h12 => fX8_row_10 (cC (dc + 30)) (.ref r) (.ref L) h12) kC) (bV (cT (dt + 30) 6 [eR (.ref 0)] s) fun h7 => bI (bI (cT (dt + 30) 40 [eR (.ref 0)] h7) fun v9 h8 => bV (cT (dt + 30) 49 [eR (.ref 0), eI (Int32.ofNat N), eI v9] h8) fun h10 => fX7_row_25 (cT (dt + 30)) (Int32.ofNat N) h10) kT) := by
  refine B_nextG hG (dc + 10) (dt + 10) hz hB1 (fun s' q2 => ?_) (fun c2 s2 p2 f2 hB2 hW2 hp2 m1 m2 hf2 hcr => ?_)
  · rw [F_e (dt + 26) q2, b_I, F_gets (dt + 28) _ _ q2, b_V, F_row25 (dt + 26) _ q2, b_I]
    exact hF _ s' q2
  obtain ⟨m3, m4, m5⟩ := hcr h8
  have hST2 := (WK_ST hB1.1 hW2).1
  have q2 := hST2.2.2.2.2.2.2 (L, cLs c L) (Or.inr ⟨Or.inl e, rfl, hu⟩)
  have e2 : cCl c2 L = 5890 := kc_cl hST2.1 e (by decide)
  simp only [a_RR, a_RI, a_II, a_IV]
  refine B_kidG hG (dt + 28) hz hB2 (hsub _ _ _ _ _ _ _ (hB2.2.2.2.2.2.1.2.2.2.1.trans hlv) hB2.1) (fun s' q2 => ?_) (fun a y W vo' c3 s3 p3 f3 hB3 hp3 hf3 m6 m7 hK3 hT3 hv3 hr3 ho3 => ?_)
  · rw [F_row25 (dt + 26) _ q2, b_I]
    exact hF _ s' q2
  have e3 : cCl c3 L = 5890 := kc_cl hK3 e2 (by decide)
  obtain ⟨hl3, hu3⟩ := raw_list (hr3 _ q2) e3
  have hlen : (cLs c L).length = Ls.length := by rw [hl]; simp
  obtain ⟨c4, e9, hB4, hK4, e4, hl4, hu4, n4, s4⟩ := BS_own (dc + 21) hz hB3 e3 hu3 (by rw [hl3, hlen]; omega) h0 (.ref a) (by omega) (by rw [hl3, hlen]; omega)
  rw [e9, b_I]
  rw [hl3, hlen] at s4
  exact hgo a y W vo' c4 s3 p3 f3 (by omega) hB4 (by omega) e4 (by rw [hl4, hl3, hl]; simp) hu4 (by omega) (by omega)
theorem rowLG {kC : Value → cS → cRes} {kT : Int32 → tS → tR} (hG : ∀ rc rt, pB n f0 c0 rc rt → G rc rt) (dc dt : Nat) {H D lv : Nat} (hH : 1 ≤ H) (hsub : SP χ n t r Oa Ou O lv H D (dc + 30) 813 (dt + 30) 40) (hlv : cnt s0 63 = lv) (hz : (cLs c0 (r + 8)).length = cnt s0 35) (h0 : cCl c0 L = 0) (hF : ∀ x, FH (kT x))
    (hgo : ∀ a x c' s' p' f', PXo χ n t r f0 p0 vo0 Op Oa Ou E O c0 s0 H D a x c' s' p' f' → G (kC (.ref a) c') (bV (cT (dt + 30) 26 [eR (.ref 0), eI 125] s') (kT (Int32.ofNat x)))) :
    ∀ (m X p f : Nat) (vo : Nat → Nat) (Ls : List cE) (c : cS) (s : tS), n - f ≤ m → p0 ≤ f → BS χ n t r f0 vo0 Op Oa Ou E X O c0 s0 N 42 Ls p f vo c s → (∀ e, e ∈ Ls → e.2.2.1 = H ∧ e.2.2.2.1 = D) → cCl c L = 5890 → cLs c L = (Ls.map Prod.fst).map .ref → unr c L → 2 ≤ Ls.length → 60 * (Ls.length - 1) ≤ X →
    cNx c + 1 + 300 * (n - f) ≤ cNx c0 + 300 * (n - f0) → cSl c + 10 + 2000 * (n - f) ≤ cSl c0 + 2000 * (n - f0) →
    G (bR (fX8_row_10 (cC (dc + 30)) (.ref r) (.ref L) c) kC) (bI (fX7_row_25 (cT (dt + 30)) (Int32.ofNat N) s) kT) := by
  intro m
  induction m with
  | zero =>
    intro X p f vo Ls c s hm hp hB hHD e hl hu h2 hX k1 k2
    have hfn : f ≤ p ∧ p ≤ n := ⟨hB.1.1.2.1, hB.1.1.1.2.2.2.2.2.2.1⟩
    exact row_endG hG dc dt hH hz h0 hgo hp hB hHD e hl h2 hX k1 k2 (fun q => by
      have := lw_5 hB.1.1.2.2.2.2.2 q.1
      omega)
  | succ m ih =>
    intro X p f vo Ls c s hm hp hB hHD e hl hu h2 hX k1 k2
    by_cases hs9 : ¬ (tI s 8 = 5 ∧ tI s 11 = 59)
    · exact row_endG hG dc dt hH hz h0 hgo hp hB hHD e hl h2 hX k1 k2 hs9
    have hs : tI s 8 = 5 ∧ tI s 11 = 59 := Decidable.not_not.1 hs9
    have hR := hB.1
    have hw := hR.1.1.1.1
    have hS := hR.2.2.2.1.1
    have h24 : Ls.length ≤ 401 := by
      obtain ⟨Wt, q1, _⟩ := hR.2.2.2.1.2.2.2.2.2.2.2.2.2.2
      have := hR.2.2.2.1.2.1.1.1.2
      omega
    rw [uX8_row_10, r_cgR, if_pos hS.1, hS.2.1, c_isSign (dc + 29) 59 hw, uX7_row_25, t_isSign (dt + 28)]
    simp only [lx_sgn hR.1 (x := 59) (by decide), hs.1, hs.2, hR.2.1, and_self, decide_true, bi_t, e10, if_false, b_I]
    rw [a_RV, a_If]
    refine B_partG hG (dc + 15) (dt + 27) hz hB (fun s' q2 => ?_) (fun hB1 => ?_)
    · rw [F_sign (dt + 26) _ q2, b_V]
      exact hF _ s' q2
    have hS1 := hB1.1.2.2.2.1.1
    rw [r_cgR, if_pos hS1.1, hS1.2.1, a_RV, a_IV]
    refine row_moreG hG dc dt hsub hlv hz h0 hF hB1 (by show tI s 8 ≠ 0; rw [hs.1]; decide) e hl hu h24 (by show cNx c + _ ≤ _; omega) (by show cSl c + _ ≤ _; omega) (fun a y W vo' c4 s4 p4 f4 hf4 hB4 hp4 e4 hl4 hu4 j1 j2 => ?_)
    have hfp : f ≤ p := hB.1.1.2.1
    refine ih (X + 60) p4 f4 vo' (Ls ++ [(a, y, H, D, W)]) c4 s4 (by omega) (by omega) hB4 (fun e he => ?_) e4 hl4 hu4 ?_ ?_ j1 j2
    · rcases List.mem_append.1 he with q | q
      · exact hHD e q
      · rw [List.mem_singleton] at q; rw [q]; exact ⟨rfl, rfl⟩
    · rw [List.length_append]; omega
    · rw [List.length_append]; show 60 * (Ls.length + 1 - 1) ≤ _; omega
theorem J_rowG {kC : Value → cS → cRes} {kT : Int32 → tS → tR} (hG : ∀ rc rt, pB n f0 c0 rc rt → G rc rt) (dc dt : Nat) {H D lv p f : Nat} {vo : Nat → Nat} {c : cS} {s : tS} (hsub : SP χ n t r Oa Ou O lv H D (dc + 30) 813 (dt + 30) 40) (hlv : cnt s0 63 = lv) (hz : (cLs c0 (r + 8)).length = cnt s0 35) (hn0 : CLN c0) (hF : ∀ x, FH (kT x))
    (hR : RP χ n t r p f vo Op Oa Ou E O c s) (hST : ST n r f0 c0 s0 f c s) (hvo : ∀ v, v < cnt s0 50 → vo v = vo0 v) (hKS : KS s0 s) (hp : p0 ≤ f)
    (k1 : cNx c + 298 + 300 * (n - f) ≤ cNx c0 + 300 * (n - f0)) (k2 : cSl c + 1992 + 2000 * (n - f) ≤ cSl c0 + 2000 * (n - f0))
    (hgo : ∀ a x c' s' p' f', PXo χ n t r f0 p0 vo0 Op Oa Ou E O c0 s0 H D a x c' s' p' f' → G (kC (.ref a) c') (bV (cT (dt + 30) 26 [eR (.ref 0), eI 125] s') (kT (Int32.ofNat x)))) :
    G (bR (fX8_row (cC (dc + 30)) (.ref r) c) kC) (bI (rowR (dt + 30) s) kT) := by
  obtain ⟨e1, hR1, hK1, hr1, cl1, ls1, u1, n1, s1⟩ := own_new (dc + 21) hR
  have hnw : cmore (csCl c (cNx c) 10890) (csz 10890) = nwC c 10890 := rfl
  have h0 : cCl c0 (cNx c) = 0 := (hn0 _ hST.1.1).1
  have hl0 := ST_lz hz hR hST
  unfold rowR
  rw [uX8_row, r_cnw, hnw, e1, b_V, a_RR, a_II]
  generalize nlC c 5890 2 = c1 at *
  generalize cNx c = L at *
  have hz1 := RP_len hR1
  have hfp : f ≤ p := hR.1.2.1
  rcases hsub vo Op E p f c1 s (hKS.2.2.2.1.trans hlv) hR1 with hb | ⟨a1, y1, c3, s3, p3, f3, e7, e8, hX1⟩
  · refine hG _ _ ?_
    exact j_px hb (by omega) (by omega) (fun x s' q2 => by
      obtain ⟨q, s'', g1, g2, g3⟩ := hF x s' q2
      exact ⟨q, s'', by rw [F_isSign (dt + 28) _ q2, b_I, if_pos rfl, F_sign (dt + 26) _ q2, b_V, b_I]; exact g1, g2, g3⟩)
  have hX0 := PXo_base hz hz1 ⟨KC_trans hl0 hST.1 hK1, hST.2.1, hST.2.2.1, by omega, by omega, hST.2.2.2.2.2.1, fun b q => hr1 b (hST.2.2.2.2.2.2 b q)⟩ hvo hKS (show p0 ≤ p by omega) hX1
  obtain ⟨vo3, g3, W3, hR3, hST3, hvo3, hy0, hy1, hT3, h71, hKS3, hpf3⟩ := hX1
  have hH := TR_H _ _ _ _ _ _ _ hT3
  have hraw03 : ∀ b, raw c0 b → raw c3 b := fun b q => hST3.2.2.2.2.2.2 b (hr1 b (hST.2.2.2.2.2.2 b q))
  have e3 : cCl c3 L = 5890 := kc_cl hST3.1 cl1 (by decide)
  obtain ⟨hl3, hu3⟩ := raw_list (hST3.2.2.2.2.2.2 (L, []) (Or.inr ⟨Or.inl cl1, ls1, u1⟩)) e3
  obtain ⟨c4, e9, hLA, hgo4, hK4, e4, hl4, hu4⟩ := own_add (dc + 21) hR3 e3 hu3 (by rw [hl3]; decide) (.ref a1)
  have n4 := hLA.1.2.1
  have s4 := hLA.1.2.2.2
  rw [hl3] at s4 hl4
  have hlen0 : ([] : List Value).length = 0 := rfl
  have m1 := hST3.2.2.2.1
  have m2 := hST3.2.2.2.2.1
  have hff : f ≤ f3 := hST3.2.2.2.2.2.1
  rw [e7, b_R, e9, b_I, e8, b_I]
  have hraw04 : ∀ b, raw c0 b → raw c4 b := fun b q => own_raw hLA (by rintro rfl; exact raw_cl0 q h0) (hraw03 b q)
  have hX4 := PXo_up (c' := c4) hz hX0 hgo4 hK4 (by omega) (by omega) hraw04 (fun g W q => ⟨g, q⟩)
  have hR4 := hgo4 _ _ _ _ _ _ _ _ hR3
  have hw := hR4.1.1.1.1
  have hS4 := hR4.2.2.2.1.1
  have hfi := hR4.2.1
  by_cases hs9 : ¬ (tI s3 8 = 5 ∧ tI s3 11 = 59)
  · have hs' : ¬ (tI s3 6 = 0 ∧ tI s3 8 = 5 ∧ tI s3 11 = 59) := fun q => hs9 q.2
    have hnw4 : cmore (csCl c4 (cNx c4) 27) (csz 27) = nwC c4 27 := rfl
    rw [uX8_row_10, r_cgR, if_pos hS4.1, hS4.2.1, c_isSign (dc + 29) 59 hw, t_isSign (dt + 28)]
    simp only [lx_sgn hR4.1 (x := 59) (by decide), hs9, hs', and_false, decide_false, bi_f, b_I, if_true]
    rw [r_cnw, hnw4, c_rw (dc + 19), b_V, b_R, a_IV]
    obtain ⟨w1, w2, w3, w4, w5, w6, w7, w8, w9⟩ := rw_facts dc hR4 e4
    exact hgo _ _ _ _ _ _ (PXo_up (c' := rwC c4 L) hz hX4 w1 w2 (by omega) (by omega) (fun b q => w3 b (by rintro rfl; exact raw_cl0 q h0) (hraw04 b q)) (fun g W q => ⟨g + 1, Or.inl ⟨w4, L, a1, w5, w6, by rw [w7, hl4]; rfl, q⟩⟩))
  have hs : tI s3 8 = 5 ∧ tI s3 11 = 59 := Decidable.not_not.1 hs9
  -- the reference's node, made before the part is counted
  have ok65 := hR4.2.2.2.1.2.1.2.2.2.2
  have ok62 := hR4.2.2.2.1.2.1.1.1.2
  have hN9 : cnt s3 65 < 900 := by have := ok65.2; omega
  have e47 := t_node (dt + 29) 42 0 0 ok65.1.1 hN9
  obtain ⟨d1, d2, d3, d4, d5, d6, d7⟩ := nd_new s3 42 0 0
  have hthd := nd_th s3 42 0 0
  have e49 := t_gets (dt + 28) (s := ndT s3 42 0 0) (x := cnt s3 65) (y := y1) (ys := []) (by rw [th_I hthd (by decide)]; exact hfi) hN9 (by omega) d5
  have hthg := gt_th (ndT s3 42 0 0) (cnt s3 65) y1 []
  have oI : ∀ x, x ≠ 65 → tI (gtT (ndT s3 42 0 0) (cnt s3 65) y1 []) x = tI s3 x := fun x hx => by rw [th_I hthg (by simp), th_I hthd (by simpa using hx)]
  have hpt := pt_nd s3 42 0 0 (cnt s3 65) y1
  have hs6 : tI (gtT (ndT s3 42 0 0) (cnt s3 65) y1 []) 6 = 0 ∧ tI (gtT (ndT s3 42 0 0) (cnt s3 65) y1 []) 8 = 5 ∧ tI (gtT (ndT s3 42 0 0) (cnt s3 65) y1 []) 11 = 59 := ⟨by rw [oI 6 (by decide)]; exact hfi, by rw [oI 8 (by decide)]; exact hs.1, by rw [oI 11 (by decide)]; exact hs.2⟩
  rw [uX8_row_10, r_cgR, if_pos hS4.1, hS4.2.1, c_isSign (dc + 29) 59 hw, t_isSign (dt + 28)]
  simp only [lx_sgn hR4.1 (x := 59) (by decide), hs.1, hs.2, hfi, and_self, decide_true, bi_t, e10, if_false, b_I]
  rw [e47, b_I, e49, b_V, uX7_row_25, t_isSign (dt + 28)]
  simp only [hs6, and_self, decide_true, bi_t, e10, if_false, b_I]
  rw [a_RV, a_If]
  rcases P_part (dc + 15) (dt + 27) hR4 with ⟨a9, c9, s9, k9, pl9, w1, w2, w3, w4, w5, w6, w7, w8⟩ | ⟨p1, p2, hRp, hSTp, hc62⟩
  · refine hG _ _ ?_
    obtain ⟨s10, x1, x2, x3, _⟩ := part_ahead (dt + 27) hfi (oI 6 (by decide)) (oI 62 (by decide)) (oI 9 (by decide)) (oI 7 (by decide)) w2
    have hb10 : tI s10 6 ≠ 0 := by rw [x2, w4]; exact w6
    obtain ⟨q, s'', q1, q2, q3⟩ := hF (Int32.ofNat (cnt s3 65)) s10 hb10
    rw [w1, b_Vx, x1, b_I, if_pos rfl, F_sign (dt + 26) _ hb10, b_V, b_I, q1]
    exact ⟨a9, c9, q, s'', k9, pl9, rfl, rfl, w3, by rw [q2, x2]; exact w4, by rw [q3, x3]; exact w5, w6, by omega, by omega⟩
  obtain ⟨s10, x1, x2, x3, x4⟩ := part_ahead (dt + 27) hfi (oI 6 (by decide)) (oI 62 (by decide)) (oI 9 (by decide)) (oI 7 (by decide)) p2
  have x5 := x4 (by decide)
  rw [p1, b_V, x1, b_I, if_neg (by decide), x5, hpt]
  obtain ⟨W, s5, vo5, g1, g2, g5, hB5, _, _⟩ := BS_adopt (dt + 29) (dt + 28) (p2 := p3) (f2 := f3) (c2 := ptC c4 r) (s2 := ptT s3) (K := 42) (k := 42) (u := 0) (v := 0) hz (by decide) rfl hX4 (fun W vo1 hRw _ => by
    rcases P_part (dc + 15) (dt + 27) hRw with ⟨a9, c9, s9, k9, pl9, w1, _⟩ | ⟨_, _, hRq, _⟩
    · rw [p1] at w1; cases w1
    · exact ⟨vo1, hRq, fun _ _ => rfl⟩) hSTp.1 hSTp.2.1 (fun q hq z hz' => hSTp.2.2.1 q hq z hz') rfl hc62 (KS_pt _) (by show cNx c4 + _ ≤ _; omega) (by show cSl c4 + _ ≤ _; omega) (Nat.le_refl _) (fun b q => q)
  have hS5 := hB5.1.2.2.2.1.1
  have en : ndT (ptT s3) (Int32.ofNat 42) 0 0 = ndT (ptT s3) 42 0 0 := rfl
  rw [en] at g5
  rw [← g5, r_cgR, if_pos hS5.1, hS5.2.1, a_RV, a_IV]
  have h8 : tI s5 8 ≠ 0 := by
    rw [g5, ← hpt]
    show tI (gtT (ndT s3 42 0 0) (cnt s3 65) y1 []) 8 ≠ 0
    rw [hs6.2.1]; decide
  have l5 : (cLs (ptC c4 r) L) = [.ref a1] := hl4
  refine row_moreG hG dc dt hsub hlv hz h0 hF hB5 h8 e4 (by rw [l5]; rfl) hu4 (by show 1 ≤ 401; decide) (by show cNx c4 + _ ≤ _; omega) (by show cSl c4 + _ ≤ _; omega) (fun a y W' vo' c6 s6 p6 f6 hf6 hB6 hp6 e6 hl6 hu6 j1 j2 => ?_)
  have hfp3 : f3 ≤ p3 := hR4.1.2.1
  refine rowLG hG dc dt hH hsub hlv hz h0 hF hgo (n - f6) 60 p6 f6 vo' _ c6 s6 (Nat.le_refl _) (by omega) hB6 (fun e he => ?_) e6 hl6 hu6 (by show 2 ≤ 2; decide) (by show 60 * (2 - 1) ≤ 60; decide) j1 j2
  simp only [List.cons_append, List.nil_append, List.mem_cons, List.not_mem_nil, or_false] at he
  rcases he with rfl | rfl <;> exact ⟨rfl, rfl⟩
end
