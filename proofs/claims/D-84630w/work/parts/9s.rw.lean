set_option maxRecDepth 100000
set_option maxHeartbeats 4000000
/-! D68: a row: its E's behind each other -/
theorem a_RV {X : Type} (r : mR X) (K : X → mR X) (K2 : Value → X → mR X) : bR (bV r K) K2 = bV r (fun h => bR (K h) K2) := by
  rcases r with _ | ⟨((_ | (a | (a | a))) | a), h⟩ <;> rfl
theorem a_RI {X : Type} (r : mR X) (K : Int32 → X → mR X) (K2 : Value → X → mR X) : bR (bI r K) K2 = bI r (fun v h => bR (K v h) K2) := by
  rcases r with _ | ⟨((_ | (a | (a | a))) | a), h⟩ <;> rfl
theorem a_IV {X : Type} (r : mR X) (K : X → mR X) (K2 : Int32 → X → mR X) : bI (bV r K) K2 = bV r (fun h => bI (K h) K2) := by
  rcases r with _ | ⟨((_ | (a | (a | a))) | a), h⟩ <;> rfl
theorem a_II {X : Type} (r : mR X) (K K2 : Int32 → X → mR X) : bI (bI r K) K2 = bI r (fun v h => bI (K v h) K2) := by
  rcases r with _ | ⟨((_ | (a | (a | a))) | a), h⟩ <;> rfl
theorem a_If {X : Type} (r : mR X) (A B : X → mR X) (K2 : Int32 → X → mR X) : bI (bI r fun v h => if v = 0 then A h else B h) K2 = bI r (fun v h => if v = 0 then bI (A h) K2 else bI (B h) K2) := by
  rw [a_II]
  congr 1
  funext v h
  by_cases q : v = 0
  · rw [if_pos q, if_pos q]
  · rw [if_neg q, if_neg q]
theorem raw_list {c : cS} {L : Nat} {l : List Value} (h : raw c (L, l)) (e : cCl c L = 5890) : cLs c L = l ∧ unr c L := by
  rcases h with q | ⟨_, q⟩
  · unfold raw0 at q
    rw [e] at q
    rcases q with ⟨q, _⟩ | ⟨q, _⟩ | ⟨q, _⟩ | ⟨q, _⟩ <;> cases q
  · exact q
section
variable {χ : Nat → Int32} {n t r : Nat} {Op Oa Ou : Nat → Prop} {E O : Nat} {L : Nat}
variable {f0 p0 : Nat} {vo0 : Nat → Nat} {N : Nat} {c0 : cS} {s0 : tS} {vq : Nat → Nat} {Opq Oaq Ouq : Nat → Prop} {Eq' Oq' : Nat} {sq : tS} {Hq Dq : Nat} {kC : Value → cS → cRes} {kT : Int32 → tS → tR}
/-- behind the last E of a row -/
theorem row_end (dc dt : Nat) {H D X p f : Nat} {vo : Nat → Nat} {Ls : List cE} {c : cS} {s : tS} (hH : 1 ≤ H) (hz : (cLs c0 (r + 8)).length = cnt s0 35) (h0 : cCl c0 L = 0)
    (hgo : ∀ a x c' s' p' f', PXo χ n t r f0 p0 vo0 Op Oa Ou E O c0 s0 H D a x c' s' p' f' → PX χ n t r f0 p0 vq Opq Oaq Ouq Eq' Oq' c0 sq Hq Dq (kC (.ref a) c') (bV (cT (dt + 30) 26 [eR (.ref 0), eI 125] s') (kT (Int32.ofNat x))))
    (hp : p0 ≤ f) (hB : BS χ n t r f0 vo0 Op Oa Ou E X O c0 s0 N 42 Ls p f vo c s) (hHD : ∀ e, e ∈ Ls → e.2.2.1 = H ∧ e.2.2.2.1 = D) (e : cCl c L = 5890) (hl : cLs c L = (Ls.map Prod.fst).map .ref) (h2 : 2 ≤ Ls.length) (hX : 60 * (Ls.length - 1) ≤ X)
    (k1 : cNx c + 1 + 300 * (n - f) ≤ cNx c0 + 300 * (n - f0)) (k2 : cSl c + 10 + 2000 * (n - f) ≤ cSl c0 + 2000 * (n - f0)) (hs : ¬ (tI s 8 = 5 ∧ tI s 11 = 59)) :
    PX χ n t r f0 p0 vq Opq Oaq Ouq Eq' Oq' c0 sq Hq Dq (bR (fX8_row_10 (cC (dc + 30)) (.ref r) (.ref L) c) kC) (bI (fX7_row_25 (cT (dt + 30)) (Int32.ofNat N) s) kT) := by
  have hR := hB.1
  have hw := hR.1.1.1.1
  have hs' : ¬ (tI s 6 = 0 ∧ tI s 8 = 5 ∧ tI s 11 = 59) := fun q => hs q.2
  have hnw : cmore (csCl c (cNx c) 27) (csz 27) = nwC c 27 := rfl
  rw [uX8_row_10, r_cgR, if_pos hR.2.2.2.1.1.1, hR.2.2.2.1.1.2.1, c_isSign (dc + 29) 59 hw, uX7_row_25, t_isSign (dt + 28)]
  simp only [lx_sgn hR.1 (x := 59) (by decide), hs, hs', and_false, decide_false, bi_f, b_I, if_true]
  rw [r_cnw, hnw, c_rw (dc + 19), b_V, b_R, a_IV]
  obtain ⟨w1, w2, w3, w4, w5, w6, w7, w8, w9⟩ := rw_facts dc hR e
  obtain ⟨g, hg⟩ := BS_kids hB w2
  obtain ⟨r1, r2, r3, r4, r5⟩ := BS_root hB (by decide)
  have hch := L_chn (T := fun b y W => (cnt s0 65 ≤ y ∧ y < cnt s 65 ∧ y ≠ N) ∧ TR g (fun q => cnt s0 65 ≤ q ∧ q < cnt s 65 ∧ q ≠ N) r (rwC c L) s (cnt s0 64) H D b y W) _ _ hB.2.2.2.2.2.2.2.2.2.1 (fun e he => by
    obtain ⟨q1, q2, q3⟩ := hg e he
    rw [(hHD e he).1, (hHD e he).2] at q3
    exact ⟨q1, q3⟩)
  refine hgo _ _ _ _ _ _ (BS_fin (g := g + 1) hz hp hB ?_ w2 (by omega) (by omega) (fun b q => w3 b (by rintro rfl; exact raw_cl0 q h0) (hB.2.1.2.2.2.2.2.2 b q)) ?_)
  · rw [← Nat.add_assoc]
    exact P_close0 (w1 _ _ _ _ _ _ _ _ hR) (by rw [r5]; decide)
  · refine Or.inr ⟨r1, r2, r3, r4, hH, by omega, ?_⟩
    exact Or.inr (Or.inr (Or.inr (Or.inr (Or.inr (Or.inr (Or.inr (Or.inr (Or.inr (Or.inr (Or.inr (Or.inr (Or.inl ⟨w4, r5, L, Ls.map Prod.fst, sW Ls, w5, w6, by rw [w7]; exact hl, by rw [List.length_map]; exact h2, hch, by rw [List.length_map]; omega⟩))))))))))))
/-- behind a counted ';' -/
theorem row_more (dc dt : Nat) {H D lv X p f : Nat} {vo : Nat → Nat} {Ls : List cE} {c : cS} {s : tS} (hsub : SP χ n t r Oa Ou O lv H D (dc + 30) 813 (dt + 30) 40) (hlv : cnt s0 63 = lv) (hz : (cLs c0 (r + 8)).length = cnt s0 35) (h0 : cCl c0 L = 0) (hF : ∀ x, FH (kT x))
    (hB1 : BS χ n t r f0 vo0 Op Oa Ou E X O c0 s0 N 42 Ls p f vo c s) (h8 : tI s 8 ≠ 0) (e : cCl c L = 5890) (hl : cLs c L = (Ls.map Prod.fst).map .ref) (hu : unr c L) (h24 : Ls.length ≤ 401)
    (k1 : cNx c + 300 * (n - f) ≤ cNx c0 + 300 * (n - f0)) (k2 : cSl c + 2000 * (n - f) ≤ cSl c0 + 2000 * (n - f0))
    (hgo : ∀ a y W vo' c4 s4 p4 f4, f < f4 → BS χ n t r f0 vo0 Op Oa Ou E X O c0 s0 N 42 (Ls ++ [(a, y, H, D, W)]) p4 f4 vo' c4 s4 → p ≤ f4 → cCl c4 L = 5890 → cLs c4 L = ((Ls ++ [(a, y, H, D, W)]).map Prod.fst).map .ref → unr c4 L → cNx c4 + 1 + 300 * (n - f4) ≤ cNx c0 + 300 * (n - f0) → cSl c4 + 10 + 2000 * (n - f4) ≤ cSl c0 + 2000 * (n - f0) → PX χ n t r f0 p0 vq Opq Oaq Ouq Eq' Oq' c0 sq Hq Dq (bR (fX8_row_10 (cC (dc + 30)) (.ref r) (.ref L) c4) kC) (bI (fX7_row_25 (cT (dt + 30)) (Int32.ofNat N) s4) kT)) :
    PX χ n t r f0 p0 vq Opq Oaq Ouq Eq' Oq' c0 sq Hq Dq (bV (cC (dc + 30) 1001 [eR (.ref (r + 16))] c) fun h9 => bR (bR (cC (dc + 30) 813 [eR (.ref r)] h9) fun v11 h10 => bI (cC (dc + 30) 9105 [eR (.ref L), eR v11] h10) fun _ h12 => fX8_row_10 (cC (dc + 30)) (.ref r) (.ref L) h12) kC) (bV (cT (dt + 30) 6 [eR (.ref 0)] s) fun h7 => bI (bI (cT (dt + 30) 40 [eR (.ref 0)] h7) fun v9 h8 => bV (cT (dt + 30) 49 [eR (.ref 0), eI (Int32.ofNat N), eI v9] h8) fun h10 => fX7_row_25 (cT (dt + 30)) (Int32.ofNat N) h10) kT) := by
  refine B_next (dc + 10) (dt + 10) hz hB1 (fun s' q2 => ?_) (fun c2 s2 p2 f2 hB2 hW2 hp2 m1 m2 hf2 hcr => ?_)
  · rw [F_e (dt + 26) q2, b_I, F_gets (dt + 28) _ _ q2, b_V, F_row25 (dt + 26) _ q2, b_I]
    exact hF _ s' q2
  obtain ⟨m3, m4, m5⟩ := hcr h8
  have hST2 := (WK_ST hB1.1 hW2).1
  have q2 := hST2.2.2.2.2.2.2 (L, cLs c L) (Or.inr ⟨Or.inl e, rfl, hu⟩)
  have e2 : cCl c2 L = 5890 := kc_cl hST2.1 e (by decide)
  simp only [a_RR, a_RI, a_II, a_IV]
  refine B_kid (dt + 28) hz hB2 (hsub _ _ _ _ _ _ _ (hB2.2.2.2.2.2.1.2.2.2.1.trans hlv) hB2.1) (fun s' q2 => ?_) (fun a y W vo' c3 s3 p3 f3 hB3 hp3 hf3 m6 m7 hK3 hT3 hv3 hr3 ho3 => ?_)
  · rw [F_row25 (dt + 26) _ q2, b_I]
    exact hF _ s' q2
  have e3 : cCl c3 L = 5890 := kc_cl hK3 e2 (by decide)
  obtain ⟨hl3, hu3⟩ := raw_list (hr3 _ q2) e3
  have hlen : (cLs c L).length = Ls.length := by rw [hl]; simp
  obtain ⟨c4, e9, hB4, hK4, e4, hl4, hu4, n4, s4⟩ := BS_own (dc + 21) hz hB3 e3 hu3 (by rw [hl3, hlen]; omega) h0 (.ref a) (by omega) (by rw [hl3, hlen]; omega)
  rw [e9, b_I]
  rw [hl3, hlen] at s4
  exact hgo a y W vo' c4 s3 p3 f3 (by omega) hB4 (by omega) e4 (by rw [hl4, hl3, hl]; simp) hu4 (by omega) (by omega)
/-- a row from its second E on -/
theorem rowL (dc dt : Nat) {H D lv : Nat} (hH : 1 ≤ H) (hsub : SP χ n t r Oa Ou O lv H D (dc + 30) 813 (dt + 30) 40) (hlv : cnt s0 63 = lv) (hz : (cLs c0 (r + 8)).length = cnt s0 35) (h0 : cCl c0 L = 0) (hF : ∀ x, FH (kT x))
    (hgo : ∀ a x c' s' p' f', PXo χ n t r f0 p0 vo0 Op Oa Ou E O c0 s0 H D a x c' s' p' f' → PX χ n t r f0 p0 vq Opq Oaq Ouq Eq' Oq' c0 sq Hq Dq (kC (.ref a) c') (bV (cT (dt + 30) 26 [eR (.ref 0), eI 125] s') (kT (Int32.ofNat x)))) :
    ∀ (m X p f : Nat) (vo : Nat → Nat) (Ls : List cE) (c : cS) (s : tS), n - f ≤ m → p0 ≤ f → BS χ n t r f0 vo0 Op Oa Ou E X O c0 s0 N 42 Ls p f vo c s → (∀ e, e ∈ Ls → e.2.2.1 = H ∧ e.2.2.2.1 = D) → cCl c L = 5890 → cLs c L = (Ls.map Prod.fst).map .ref → unr c L → 2 ≤ Ls.length → 60 * (Ls.length - 1) ≤ X →
    cNx c + 1 + 300 * (n - f) ≤ cNx c0 + 300 * (n - f0) → cSl c + 10 + 2000 * (n - f) ≤ cSl c0 + 2000 * (n - f0) →
    PX χ n t r f0 p0 vq Opq Oaq Ouq Eq' Oq' c0 sq Hq Dq (bR (fX8_row_10 (cC (dc + 30)) (.ref r) (.ref L) c) kC) (bI (fX7_row_25 (cT (dt + 30)) (Int32.ofNat N) s) kT) := by
  intro m
  induction m with
  | zero =>
    intro X p f vo Ls c s hm hp hB hHD e hl hu h2 hX k1 k2
    have hfn : f ≤ p ∧ p ≤ n := ⟨hB.1.1.2.1, hB.1.1.1.2.2.2.2.2.2.1⟩
    exact row_end dc dt hH hz h0 hgo hp hB hHD e hl h2 hX k1 k2 (fun q => by
      have := lw_5 hB.1.1.2.2.2.2.2 q.1
      omega)
  | succ m ih =>
    intro X p f vo Ls c s hm hp hB hHD e hl hu h2 hX k1 k2
    by_cases hs9 : ¬ (tI s 8 = 5 ∧ tI s 11 = 59)
    · exact row_end dc dt hH hz h0 hgo hp hB hHD e hl h2 hX k1 k2 hs9
    have hs : tI s 8 = 5 ∧ tI s 11 = 59 := Decidable.not_not.1 hs9
    have hR := hB.1
    have hw := hR.1.1.1.1
    have hS := hR.2.2.2.1.1
    have h24 : Ls.length ≤ 401 := by
      obtain ⟨Wt, q1, _⟩ := hR.2.2.2.1.2.2.2.2.2.2.2.2.2.2
      have := hR.2.2.2.1.2.1.1.1.2
      omega
    rw [uX8_row_10, r_cgR, if_pos hS.1, hS.2.1, c_isSign (dc + 29) 59 hw, uX7_row_25, t_isSign (dt + 28)]
    simp only [lx_sgn hR.1 (x := 59) (by decide), hs.1, hs.2, hR.2.1, and_self, decide_true, bi_t, e10, if_false, b_I]
    rw [a_RV, a_If]
    refine B_part (dc + 15) (dt + 27) hz hB (fun s' q2 => ?_) (fun hB1 => ?_)
    · rw [F_sign (dt + 26) _ q2, b_V]
      exact hF _ s' q2
    have hS1 := hB1.1.2.2.2.1.1
    rw [r_cgR, if_pos hS1.1, hS1.2.1, a_RV, a_IV]
    refine row_more dc dt hsub hlv hz h0 hF hB1 (by show tI s 8 ≠ 0; rw [hs.1]; decide) e hl hu h24 (by show cNx c + _ ≤ _; omega) (by show cSl c + _ ≤ _; omega) (fun a y W vo' c4 s4 p4 f4 hf4 hB4 hp4 e4 hl4 hu4 j1 j2 => ?_)
    have hfp : f ≤ p := hB.1.1.2.1
    refine ih (X + 60) p4 f4 vo' (Ls ++ [(a, y, H, D, W)]) c4 s4 (by omega) (by omega) hB4 (fun e he => ?_) e4 hl4 hu4 ?_ ?_ j1 j2
    · rcases List.mem_append.1 he with q | q
      · exact hHD e q
      · rw [List.mem_singleton] at q; rw [q]; exact ⟨rfl, rfl⟩
    · rw [List.length_append]; omega
    · rw [List.length_append]; show 60 * (Ls.length + 1 - 1) ≤ _; omega
end
