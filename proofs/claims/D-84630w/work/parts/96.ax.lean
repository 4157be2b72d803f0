set_option maxRecDepth 100000
set_option maxHeartbeats 4000000
/-! D46: the atom of key 16 -/
section
variable {χ : Nat → Int32} {n t r : Nat} {Oa Ou : Nat → Prop} {O : Nat}
theorem c_hr (d : Nat) {c : cS} {a : Nat} (ha : cCl c a = 28) : cC (d + 11) 2800 [eR (.ref a)] c = some (.inl none, c) := by
  rw [kX28_init, r_cck, if_pos ha, uX28_init, kX18_init, uX18_init]
  simp only [pP, ha, rC, bB, Nat.reduceDiv, Nat.reduceLeDiff, Nat.reduceLT,  eq_self, if_true, if_false, true_and, and_true, false_and, and_false, or_true, true_or, or_false, false_or, reduceIte, reduceCtorEq, Nat.reduceEqDiff, not_true_eq_false, not_false_eq_true, r_misN, r_misR, gC]
theorem S_ctx (dc dt : Nat) {H D lv : Nat} (hH : 1 ≤ H) (vo : Nat → Nat) (Op : Nat → Prop) (E p f : Nat) (c : cS) (s : tS) (hlv : cnt s 63 = lv) (hR : RP χ n t r p f vo Op Oa Ou E O c s) (h8 : tI s 8 ≠ 0) :
    PX χ n t r f p vo Op Oa Ou E O c s H D (bV (cC (dc + 30) 818 [eR (.ref r)] c) fun h11 => cgR h11 800 (.ref r) fun v12 => bV (cC (dc + 30) 1001 [eR v12] h11) fun h13 => cgR h13 803 (.ref r) fun v14 => cpZ h13 1612 v14 1 fun h15 => cgR h15 803 (.ref r) fun v16 => cpZ h15 1613 v16 1 fun h17 => cnw h17 28 fun v18 h19 => bV (cC (dc + 30) 2800 [eR v18] h19) fun h20 => some (.inl (some (eR v18)), h20)) (cT (dt + 31) 67 [eR (.ref 0), eI 27, eI 0, eI 0] s) := by
  have hz := RP_len hR
  rw [kX7_simple, uX7_simple]
  rcases P_part (dc + 15) (dt + 27) hR with ⟨a9, c9, s9, k9, pl9, w1, w2, w3, w4, w5, w6, w7, w8⟩ | ⟨e1, e2, hR1, hST1, hc1⟩
  · left
    rw [w1, w2, b_Vx, b_I, if_pos rfl]
    exact ⟨a9, c9, 0, s9, k9, pl9, rfl, rfl, w3, w4, w5, w6, by omega, by omega⟩
  · have hn62 := hR.2.2.2.1.2.1.2.2.2.2.2
    have hn65 : cnt (ptT s) 65 = cnt s 65 := rfl
    obtain ⟨e3, hB, _, _⟩ := BS_node (dt + 29) (E := E) (X := 60) (K := 27) hz hR1 hST1 (fun _ _ => rfl) (KS_pt _) (by decide) 0 0 (by rw [hc1, hn65]; omega)
    have e3' : cT (dt + 30) 47 [eR (.ref 0), eI 27, eI 0, eI 0] (ptT s) = _ := e3
    have htok : tI (ndT (ptT s) (Int32.ofNat 27) 0 0) 8 ≠ 0 := by
      have : tI (ndT (ptT s) (Int32.ofNat 27) 0 0) 8 = tI s 8 := rfl
      rw [this]; exact h8
    rw [e1, b_V, e2, b_I, if_neg (by decide), e3', b_I, RP_800 hB.1]
    generalize ndT (ptT s) (Int32.ofNat 27) 0 0 = s2 at hB htok ⊢
    generalize cnt (ptT s) 65 = N at hB ⊢
    have hnp : cNx (ptC c r) = cNx c := rfl
    have hnp2 : cSl (ptC c r) = cSl c := rfl
    rcases P_next (dc + 10) (dt + 10) hB.1 with hb | ⟨c2, s3, p3, f3, e5, e6, hW3⟩
    · left
      refine pB_lx hb (f1 := f) (by omega) (by omega) (fun a c' q => by rw [q]; rfl) (fun s' q1 q2 => ?_)
      rw [q1, b_V]
      exact ⟨_, _, rfl, rfl, rfl⟩
    · right
      obtain ⟨hff3, hy3, hz3⟩ := (WK_ST hB.1 hW3).2 htok
      obtain ⟨hB3, hp3⟩ := BS_tok hz hB hW3
      rw [e5, e6, b_V, b_V]
      have hR3 := hB3.1
      obtain ⟨r1, r2, r3, r4, r5⟩ := BS_root hB3 (by decide)
      have h64 : cnt s3 64 = cnt s 64 := hB3.2.2.2.2.2.1.2.2.2.2
      have hcu := hR3.2.2.2.1.2.2.2.2.2.2.2.1.1
      rw [h64] at hcu
      have hcl8 := hR3.2.2.2.1.1.1
      have hcl16 : cCl c2 (lid c2 (r + 8) (cnt s 64)) = 16 := (hR3.2.2.2.1.2.2.2.2.2.1.2.1.2 _ hcu.2.1).2
      obtain ⟨hR4, hKC4⟩ := P_f12 hR3 r1 r3 (Or.inr (Or.inr r5))
      obtain ⟨hR5, hKC5⟩ := P_f13 hR4 r1 r3 r5
      have h803 : cR c2 803 r = .ref (lid c2 (r + 8) (cnt s 64)) := hcu.2.2
      have hl4 : lid (csI c2 1612 (lid c2 (r + 8) (cnt s 64)) 1) (r + 8) (cnt s 64) = lid c2 (r + 8) (cnt s 64) := rfl
      rw [hl4] at hR5 hKC5
      have hraw5 : ∀ b, raw c b → raw (csI (csI c2 1612 (lid c2 (r + 8) (cnt s 64)) 1) 1613 (lid c2 (r + 8) (cnt s 64)) 1) b := raw_I (raw_I hB3.2.1.2.2.2.2.2.2)
      have hlid : ∀ i, lid (csI (csI c2 1612 (lid c2 (r + 8) (cnt s 64)) 1) 1613 (lid c2 (r + 8) (cnt s 64)) 1) (r + 8) i = lid c2 (r + 8) i := fun _ => rfl
      generalize hul : lid c2 (r + 8) (cnt s 64) = ul at *
      have hg8 : cCl (csI c2 1612 ul 1) r = 8 := hcl8
      have hg803 : cR (csI c2 1612 ul 1) 803 r = .ref ul := h803
      have hg16 : cCl (csI c2 1612 ul 1) ul = 16 := hcl16
      rw [r_cgR, if_pos hcl8, h803, r_cpZ, if_pos ⟨hcl16, Or.inr rfl⟩, r_cgR, if_pos hg8, hg803, r_cpZ, if_pos ⟨hg16, Or.inr rfl⟩, r_cnw]
      have hnx5 : cNx (csI (csI c2 1612 ul 1) 1613 ul 1) = cNx c2 := rfl
      have hsl5 : cSl (csI (csI c2 1612 ul 1) 1613 ul 1) = cSl c2 := rfl
      have h12 : cI (csI (csI c2 1612 ul 1) 1613 ul 1) 1612 ul = 1 := by simp [gC]
      have h13 : cI (csI (csI c2 1612 ul 1) 1613 ul 1) 1613 ul = 1 := by simp [gC]
      have hlen5 : (cLs c2 (r + 8)).length ≤ (cLs (csI c2 1612 ul 1) (r + 8)).length := Nat.le_refl _
      have hKC6 := KC_trans hlen5 hKC4 hKC5
      have hlen6 : (cLs c2 (r + 8)).length ≤ (cLs (csI (csI c2 1612 ul 1) 1613 ul 1) (r + 8)).length := Nat.le_refl _
      generalize csI (csI c2 1612 ul 1) 1613 ul 1 = c4 at hR5 hnx5 hsl5 h12 h13 hKC6 hlen6 hraw5 hlid ⊢
      have hnw : cmore (csCl c4 (cNx c4) 28) (csz 28) = nwC c4 28 := rfl
      have hn5 := hR5.2.2.1
      have hcz : csz 28 ≤ 10 := by decide
      have e10 := c_hr (dc + 19) (c := nwC c4 28) (a := cNx c4) (nw_cl c4 28)
      rw [hnw, e10, b_V]
      have hB7 := BS_gen0 hz hB3 (P_new 28 hR5) (KC_trans hlen6 hKC6 (KC_new hn5 hR5.2.2.2.1.1 28)) (TH_refl _ _ _ _ s3) (by show cNx c4 + 1 + _ ≤ _; omega) (by show cSl c4 + csz 28 + _ ≤ _; omega) (Nat.le_refl _) (fun b q => nw_raw hn5 28 b (hraw5 b q))
      have g1 : cCl (nwC c4 28) (cNx c4) = 28 := nw_cl c4 28
      have g2 : cI (nwC c4 28) 1612 ul = 1 := h12
      have g3 : cI (nwC c4 28) 1613 ul = 1 := h13
      have g4 : lid (nwC c4 28) (r + 8) (cnt s 64) = ul := (hlid _).trans hul
      have hk70 : tA s3 70 N = -1 := hB7.2.2.2.2.2.2.2.2.2.1
      have hT : TR 1 (fun q => cnt s 65 ≤ q ∧ q < cnt s3 65 ∧ q ≠ N) r (nwC c4 28) s3 (cnt s 64) H D (cNx c4) N (60 + sW []) := by
        refine Or.inr ⟨r1, r2, r3, r4, hH, by omega, ?_⟩
        exact Or.inr (Or.inr (Or.inl ⟨g1, r5, hk70⟩))
      have hRc : RP χ n t r p3 f3 vo Op Oa Ou (E + (60 + sW [])) O (nwC c4 28) s3 := by
        rw [← Nat.add_assoc]
        exact P_close27 hB7.1 r5 r3 (by rw [g4, g2]) (by rw [g4, g3])
      obtain ⟨z1, z2, z3, z4, z5, z6, z7, z8, z9, z10⟩ := hB7
      exact ⟨cNx c4, N, _, s3, p3, f3, rfl, rfl, vo, 1, _, hRc, z2, z3, z4, z5, hT, z9, z6, hp3⟩
end
