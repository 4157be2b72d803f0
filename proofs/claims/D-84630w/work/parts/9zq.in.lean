set_option maxRecDepth 100000
set_option maxHeartbeats 4000000
/-! D91: a unit with a limit is told to the unit around it -/
section
variable {χ : Nat → Int32} {n t r p f : Nat} {vo : Nat → Nat} {Op Oa Ou : Nat → Prop} {E O : Nat} {c c' : cS} {s s' : tS}
theorem P_ins (d : Nat) {u w N m lu L : Nat} (h : RP χ n t r p f vo Op Oa Ou E O c s) (hv : limV r c s u w N m lu L) (h64 : cnt s 64 = w) (hN : N < cnt s 65) (k66 : ca s 66 N = 10) (k67 : ca s 67 N = w) :
    ∃ c', (∀ K : cS → cRes, (cgR c 803 (.ref r) fun v11 => cgR c 1617 v11 fun v12 => bI (cC (d + 9) 9105 [eR v12, eR (.ref lu)] c) fun _ h => K h) = K c') ∧ RP χ n t r p f vo Op Oa Ou E O c' s ∧ KC r c c' ∧ (∀ b, raw c b → raw c' b) ∧ cNx c' ≤ cNx c + 1 ∧ cSl c' ≤ cSl c + 130 ∧ (∃ i, i < (cLs c' (lid c' (r + 8) w + 5)).length ∧ nthD .null (cLs c' (lid c' (r + 8) w + 5)) i = .ref lu) := by
  have h0 := h
  obtain ⟨hL, hfi, hn, hQ, hN', hOu, hOp, hOa, hOu2⟩ := h
  obtain ⟨hS, hC, hG, hLm, hM, hU, hV, hI, hF, hA, hB⟩ := hQ
  obtain ⟨v1, v2, v3, v4, v5, v6, v7, v8, v9⟩ := hv
  obtain ⟨u1, u2, u3, u4, u5, u6⟩ := v1
  have h60 := hU.1.2
  have hw35 : w < cnt s 35 := Nat.lt_trans u3 u1
  obtain ⟨g1, g2, g3, g4⟩ := RUt_cap hU hw35
  have h803 := hI.1.2.2
  rw [h64] at h803
  have h1617 : cR c 1617 (lid c (r + 8) w) = .ref (lid c (r + 8) w + 5) := (hU.2.2 w hw35).2.2.2.1.2.2.2.2.1
  obtain ⟨f1, f2⟩ := id hF
  obtain ⟨K2, e13, ⟨X2, hX2, e14⟩, e15⟩ := (f2 w hw35).2.2.2.2.2.2.2.2.2.2
  have hK2 : K2 ≤ cnt s 35 := injK_le _ _ _ hX2 (fun i hi => by obtain ⟨x, _, _, _, _, q, _⟩ := e14 i hi; exact q)
  obtain ⟨c', e2, hLA⟩ := c_add d g3 rfl (by rw [e13.1]; omega) (.ref lu)
  obtain ⟨⟨x1, x2, x3, x4⟩, ⟨i1, i2, i3, i4, i5, i6, i7⟩, i8, i9⟩ := id hLA
  have hch : CH [] [] [] [6617] c c' := LA_ch hLA g3
  have hid := TH_refl [] [] [] [] s
  have hKC : KC r c c' := by
    refine ⟨x1, x3, fun b _ => ⟨by rw [i6], by rw [i7]⟩, fun x b _ _ => by rw [i1], fun x b _ _ => by rw [i2], fun x b _ _ _ => by rw [i3], fun b hb _ => i9 b (by rintro rfl; rcases hb with q | q <;> rw [g3] at q <;> exact absurd q (by decide)), ⟨fun b j _ => by rw [i5], fun b i hb hi => ?_, fun b _ q => by rw [i1]; exact q⟩, fun k _ => by unfold lid; rw [i9 (r + 8) (fun q => by have := RSt_uL hS; rw [q, g3] at this; exact absurd this (by decide))]⟩
    by_cases q : b = lid c (r + 8) w + 5
    · rw [q] at hi ⊢
      rw [i8]
      exact ⟨by rw [List.length_append]; omega, fun _ => lst_lt _ _ _ hi⟩
    · rw [i9 b q]; exact ⟨hi, fun _ => rfl⟩
  have el : ∀ k, lid c' (r + 8) k = lid c (r + 8) k := ch_lid hch (RSt_uL hS) (by decide) (by decide)
  have lN : nthD .null (cLs c' (lid c (r + 8) w + 5)) K2 = .ref lu := by rw [i8, ← e13.1]; exact lst_end _ _
  have lo : ∀ i, i < K2 → nthD .null (cLs c' (lid c (r + 8) w + 5)) i = nthD .null (cLs c (lid c (r + 8) w + 5)) i := fun i hi => by rw [i8]; exact lst_lt _ _ _ (by rw [e13.1]; exact hi)
  have c68 := ca_of v8 (by omega)
  have h36 : tA s 36 u = 3 := u4
  refine ⟨c', fun K => ?_, ⟨LX_ch hch hid (by rw [i4]) (by rw [i5]) (by decide) hL, hfi, cC_cln e2 hn, ⟨RSt_fr hch (by decide) hS, RCt_fr hch hid hS (by decide) hC, RGt_fr hch hid hS (by decide) hG, RLt_fr hch hid hS (by decide) hLm, RMt_fr hch hid hS (by decide) (by decide) hM, RUt_fr hch hid hS (by decide) (by decide) hU, RVt_fr hch hid hS hU (by decide) hV, RIt_fr hch hid hS hV (by decide) hI, ⟨f1, fun k hk => ?_⟩, RAt_fr hch hid hS (by decide) hA, RBt_mono hKC (KT_refl s) hU.2.1.1 (fun v hv => (hV.2.1 v hv).2.2.1) rfl (Nat.le_refl _) (fun k _ _ => by rw [i3]) (fun _ _ _ => rfl) (fun _ _ _ _ _ => rfl) hB⟩, hN', hOu, hOp, hOa, hOu2⟩, hKC, LA_raw hLA g3 (by decide), x2, by rw [e13.1] at x4; omega, K2, by rw [el, i8, List.length_append, e13.1]; exact Nat.lt_succ_self _, by rw [el]; exact lN⟩
  · rw [r_cgR, if_pos hS.1, h803, r_cgR, if_pos g4, h1617, e2, b_I]
  · obtain ⟨j1, j2, j3, j4⟩ := RUt_cap hU hk
    obtain ⟨e1, e2', e3, e4, e5, e6, e7, e8, e9, ⟨K, e10, ⟨X, hX, e11⟩, e12⟩, K3, y13, ⟨X3, hX3, y14⟩, y15⟩ := f2 k hk
    have n3 : lid c (r + 8) k + 3 ≠ lid c (r + 8) w + 5 := fun q => by rw [q, g3] at j2; exact absurd j2 (by decide)
    have l3 : cLs c' (lid c (r + 8) k + 3) = cLs c (lid c (r + 8) k + 3) := i9 _ n3
    have es : ∀ i, lid c' (lid c (r + 8) k + 3) i = lid c (lid c (r + 8) k + 3) i := fun i => lid_eq (by rw [l3])
    have l5 : ∀ b, cCl c b = 5891 → cLs c' b = cLs c b := fun b hb => i9 b (fun q => by rw [q, g3] at hb; exact absurd hb (by decide))
    simp only [el, i1, i2, i3, es, i6]
    refine ⟨e1, e2', e3, e4, e5, e6, e7, e8, e9, ⟨K, ⟨by rw [l3]; exact e10.1, fun i hi => by rw [es, l3, i6]; exact e10.2 i hi⟩, ⟨X, hX, fun i hi => ?_⟩, fun x w1 w2 w3 w4 => ?_⟩, ?_⟩
    · obtain ⟨z1, z2, z3, z4, z5, z6, z7, L', z8, z9, z10⟩ := e11 i hi
      exact ⟨z1, z2, z3, z4, z5, z6, z7, L', z8, z9, by rw [l5 L' z9]; exact z10⟩
    · obtain ⟨i, hi, z5, z6, z7, L', z8, z9, z10⟩ := e12 x w1 w2 w3 w4
      exact ⟨i, hi, z5, z6, z7, L', z8, z9, by rw [l5 L' z9]; exact z10⟩
    · by_cases q : k = w
      · subst q
        refine ⟨K2 + 1, ⟨by rw [i8, List.length_append, e13.1]; rfl, fun i hi => ?_⟩, ⟨fun i => if i = K2 then u else X2 i, fun i j hi hj hij => ?_, fun i hi => ?_⟩, fun x w1 w2 w3 w4 => ?_⟩
        · by_cases ei : i = K2
          · rw [ei, lid_at lN, lN, i6]
            exact ⟨rfl, by rw [← u5]; exact (RUt_cap hU u1).2.2.2⟩
          · rw [lid_eq (lo i (by omega)), lo i (by omega), i6]
            exact e13.2 i (by omega)
        · dsimp only at hij
          have old : ∀ i, i < K2 → X2 i ≠ u := fun i hi z => by
            obtain ⟨x, _, _, _, _, _, _, y⟩ := e14 i hi
            exact v9 i (by rw [e13.1]; exact hi) (by rw [y, z]; exact u5)
          by_cases ei : i = K2
          · by_cases ej : j = K2
            · omega
            · rw [if_pos ei, if_neg ej] at hij
              exact absurd hij.symm (old j (by omega))
          · by_cases ej : j = K2
            · rw [if_neg ei, if_pos ej] at hij
              exact absurd hij (old i (by omega))
            · rw [if_neg ei, if_neg ej] at hij
              exact hX2 i j (by omega) (by omega) hij
        · dsimp only
          by_cases ei : i = K2
          · rw [if_pos ei, ei, lid_at lN]
            exact ⟨N, hN, k67, k66, c68, u1, h36, u5.symm⟩
          · rw [if_neg ei, lid_eq (lo i (by omega))]
            exact e14 i (by omega)
        · obtain ⟨z5, z6, z7, z8, z9⟩ := e15 x w1 w2 w3 w4
          refine ⟨z5, z6, z7, z8, fun z => ?_⟩
          obtain ⟨i, y1, y2⟩ := z9 z
          exact ⟨i, by omega, by rw [lid_eq (lo i y1)]; exact y2⟩
      · have n5 : lid c (r + 8) k + 5 ≠ lid c (r + 8) w + 5 := fun z => q (u_inj h0 hk hw35 (by omega))
        have k5 : cLs c' (lid c (r + 8) k + 5) = cLs c (lid c (r + 8) k + 5) := i9 _ n5
        have es5 : ∀ i, lid c' (lid c (r + 8) k + 5) i = lid c (lid c (r + 8) k + 5) i := fun i => lid_eq (by rw [k5])
        simp only [es5]
        exact ⟨K3, ⟨by rw [k5]; exact y13.1, fun i hi => by rw [es5, k5, i6]; exact y13.2 i hi⟩, ⟨X3, hX3, y14⟩, y15⟩
end
