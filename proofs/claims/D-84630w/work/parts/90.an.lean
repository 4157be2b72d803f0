set_option maxRecDepth 100000
set_option maxHeartbeats 4000000
/-! D40: nothing, as an atom -/
section
variable {χ : Nat → Int32} {n t r : Nat} {Oa Ou : Nat → Prop} {O : Nat}
def ltC (c : cS) (a : Nat) (k v : Int32) : cS := csI (csI c 2500 a k) 2501 a v
theorem c_lt (d : Nat) {c : cS} {a : Nat} (k v : Int32) (ha : cCl c a = 25) : cC (d + 11) 2500 [eR (.ref a), eI k, eI v] c = some (.inl none, ltC c a k v) := by
  rw [kX25_init, r_cck, if_pos ha, uX25_init, kX18_init, uX18_init]
  simp only [pP, ha, rC, bB, Nat.reduceDiv, Nat.reduceLeDiff, Nat.reduceLT,  eq_self, if_true, if_false, true_and, and_true, false_and, and_false, or_true, true_or, or_false, false_or, reduceIte, reduceCtorEq, Nat.reduceEqDiff, not_true_eq_false, not_false_eq_true, r_misN, r_misR, gC]
  rfl
theorem S_nil (dc dt : Nat) {H D lv : Nat} (hH : 1 ≤ H) (vo : Nat → Nat) (Op : Nat → Prop) (E p f : Nat) (c : cS) (s : tS) (hlv : cnt s 63 = lv) (hR : RP χ n t r p f vo Op Oa Ou E O c s) (h8 : tI s 8 ≠ 0) :
    PX χ n t r f p vo Op Oa Ou E O c s H D (bV (cC (dc + 30) 818 [eR (.ref r)] c) fun h31 => cgR h31 800 (.ref r) fun v32 => bV (cC (dc + 30) 1001 [eR v32] h31) fun h33 => cnw h33 25 fun v34 h35 => bV (cC (dc + 30) 2500 [eR v34, eI 1, eI (-1)] h35) fun h36 => some (.inl (some (eR v34)), h36)) (cT (dt + 31) 67 [eR (.ref 0), eI 1, eI 0, eI 0] s) := by
  have hz := RP_len hR
  rw [kX7_simple, uX7_simple]
  rcases P_part (dc + 15) (dt + 27) hR with ⟨a9, c9, s9, k9, pl9, w1, w2, w3, w4, w5, w6, w7, w8⟩ | ⟨e1, e2, hR1, hST1, hc1⟩
  · left
    rw [w1, w2, b_Vx, b_I, if_pos rfl]
    exact ⟨a9, c9, 0, s9, k9, pl9, rfl, rfl, w3, w4, w5, w6, by omega, by omega⟩
  · have hn62 := hR.2.2.2.1.2.1.2.2.2.2.2
    have hn65 : cnt (ptT s) 65 = cnt s 65 := rfl
    obtain ⟨e3, hB, _, _⟩ := BS_node (dt + 29) (E := E) (X := 60) (K := 1) hz hR1 hST1 (fun _ _ => rfl) (KS_pt _) (by decide) 0 0 (by rw [hc1, hn65]; omega)
    have e3' : cT (dt + 30) 47 [eR (.ref 0), eI 1, eI 0, eI 0] (ptT s) = _ := e3
    have htok : tI (ndT (ptT s) (Int32.ofNat 1) 0 0) 8 ≠ 0 := by
      have : tI (ndT (ptT s) (Int32.ofNat 1) 0 0) 8 = tI s 8 := rfl
      rw [this]; exact h8
    rw [e1, b_V, e2, b_I, if_neg (by decide), e3', b_I, RP_800 hB.1]
    generalize ndT (ptT s) (Int32.ofNat 1) 0 0 = s2 at hB htok ⊢
    generalize cnt (ptT s) 65 = N at hB ⊢
    have hnp : cNx (ptC c r) = cNx c := rfl
    have hnp2 : cSl (ptC c r) = cSl c := rfl
    rcases P_next (dc + 10) (dt + 10) hB.1 with hb | ⟨c2, s3, p3, f3, e5, e6, hW3⟩
    · left
      refine pB_lx hb (f1 := f) (by omega) (by omega) (fun a c' q => by rw [q]; rfl) (fun s' q1 q2 => ?_)
      rw [q1, b_V]
      exact ⟨_, _, rfl, rfl, rfl⟩
    · right
      obtain ⟨hff3, hy3, hz3⟩ := (WK_ST hB.1 hW3).2 htok
      obtain ⟨hB3, hp3⟩ := BS_tok hz hB hW3
      rw [e5, e6, b_V, b_V, r_cnw]
      have hnw : cmore (csCl c2 (cNx c2) 25) (csz 25) = nwC c2 25 := rfl
      rw [hnw]
      have hR3 := hB3.1
      have hn3 := hR3.2.2.1
      have ha2 : cCl c2 (cNx c2) = 0 := (hn3 _ (Nat.le_refl _)).1
      have hnl : ¬ live c2 (cNx c2) := fun q => q.1 ha2
      have ha0 : cCl c (cNx c2) = 0 := (hR.2.2.1 _ (by have := hB3.2.1.1.1; omega)).1
      have e10 := c_lt (dc + 19) (c := nwC c2 25) (a := cNx c2) 1 (-1) (nw_cl c2 25)
      have hcl7 : CLN (ltC (nwC c2 25) (cNx c2) 1 (-1)) := cC_cln e10 (P_new 25 hR3).2.2.1
      have hch7 : CH [] [] [] [] c2 (ltC (nwC c2 25) (cNx c2) 1 (-1)) := CH_I (Or.inr hnl) (CH_I (Or.inr hnl) (nw_ch hn3 25))
      have hsl : cSl (ltC (nwC c2 25) (cNx c2) 1 (-1)) = cSl c2 + csz 25 := rfl
      have hcz : csz 25 ≤ 10 := by decide
      have hnx : cNx (ltC (nwC c2 25) (cNx c2) 1 (-1)) = cNx c2 + 1 := rfl
      have hR7 := RP_fr hch7 (TH_refl [] [] [] [] s3) (fun _ _ _ => ⟨rfl, rfl⟩) hcl7 (by omega) (by decide) (by decide) (by simp) hR3
      have hKC7 : KC r c2 (ltC (nwC c2 25) (cNx c2) 1 (-1)) := KC_I ha2 (KC_I ha2 (KC_new hn3 hR3.2.2.2.1.1 25))
      have hraw7 : ∀ b, raw c b → raw (ltC (nwC c2 25) (cNx c2) 1 (-1)) b := raw_I (raw_I (fun b q => nw_raw hn3 25 b (hB3.2.1.2.2.2.2.2.2 b q)))
      have hB7 := BS_gen0 hz hB3 hR7 hKC7 (TH_refl _ _ _ _ s3) (by omega) (by omega) (Nat.le_refl _) hraw7
      have g1 : cCl (ltC (nwC c2 25) (cNx c2) 1 (-1)) (cNx c2) = 25 := nw_cl c2 25
      have g2 : cI (ltC (nwC c2 25) (cNx c2) 1 (-1)) 2500 (cNx c2) = 1 := by simp [ltC, gC]
      have g3 : cI (ltC (nwC c2 25) (cNx c2) 1 (-1)) 2501 (cNx c2) = -1 := by simp [ltC, gC]
      rw [e10, b_V]
      obtain ⟨r1, r2, r3, r4, r5⟩ := BS_root hB7 (by decide)
      have hk66 : tA s3 66 N = Int32.ofNat 1 := hB7.2.2.2.2.2.2.1
      have hk70 : tA s3 70 N = -1 := hB7.2.2.2.2.2.2.2.2.2.1
      refine ⟨cNx c2, N, _, s3, p3, f3, rfl, rfl, BS_end0 (g := 1) hp3 hB7 (by decide) (by decide) ?_⟩
      refine Or.inr ⟨r1, r2, r3, r4, hH, by omega, Or.inl ⟨g1, by rw [g2, hk66]; rfl, hk70, Or.inl ⟨r5, g3⟩⟩⟩
end
