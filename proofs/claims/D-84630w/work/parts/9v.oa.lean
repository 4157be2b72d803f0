set_option maxRecDepth 100000
set_option maxHeartbeats 4000000
/-! D71: arguments' lists under construction -/
section
variable {χ : Nat → Int32} {n t r p f : Nat} {vo : Nat → Nat} {Op Oa Ou : Nat → Prop} {E O : Nat} {c c' : cS} {s : tS} {L : Nat} {l : List Value}
theorem RFt_own (h : LA c L l c') (e : cCl c L = 5891) (hu : unr c L) (hS : RSt r c) (hU : RUt r c s) (hC : RFt r Op c s) : RFt r Op c' s := by
  have hch := LA_ch h e
  obtain ⟨_, ⟨a1, a2, a3, a4, a5, a6, a7⟩, _, h4⟩ := h
  have el : ∀ k, lid c' (r + 8) k = lid c (r + 8) k := ch_lid hch (RSt_uL hS) (by decide) (by decide)
  have wl : ∀ a o M, cCl c a = 30 → cR c 3000 a = .ref o → cR c 3003 a = .ref M → cLs c' M = cLs c M := fun a o M w1 w2 w3 => h4 M (by rintro rfl; exact nunr_30 w1 w2 w3 hu)
  obtain ⟨q1, q2⟩ := hC
  unfold RFt
  simp only [el, a1, a2, a3, a6]
  refine ⟨q1, fun k hk => ?_⟩
  obtain ⟨g1, g2, g3, g4⟩ := RUt_cap hU hk
  obtain ⟨e1, e2, e3, e4, e5, e6, e7, e8, e9, ⟨K, e10, ⟨X, hX, e11⟩, e12⟩, K2, e13, ⟨X2, hX2, e14⟩, e15⟩ := q2 k hk
  have es : ∀ i, lid c' (lid c (r + 8) k + 3) i = lid c (lid c (r + 8) k + 3) i := ch_lid hch g2 (by decide) (by decide)
  have ei : ∀ i, lid c' (lid c (r + 8) k + 5) i = lid c (lid c (r + 8) k + 5) i := ch_lid hch g3 (by decide) (by decide)
  refine ⟨e1, e2, e3, e4, e5, e6, e7, e8, e9, ⟨K, lsr_fr hch g2 (by decide) (by decide) (by decide) e10, ⟨X, hX, fun i hi => ?_⟩, fun x w1 w2 w3 w4 => ?_⟩, K2, lsr_fr hch g3 (by decide) (by decide) (by decide) e13, ⟨X2, hX2, fun i hi => ?_⟩, fun x w1 w2 w3 w4 => ?_⟩
  · obtain ⟨x1, x2, x3, x4, x5, x6, ⟨o, xo⟩, M, x7, x8, x9⟩ := e11 i hi
    have hc := (e10.2 i hi).2
    rw [es]
    exact ⟨x1, x2, x3, x4, x5, x6, ⟨o, xo⟩, M, x7, x8, by rw [wl _ o M hc xo x7]; exact x9⟩
  · obtain ⟨i, hi, x5, x6, ⟨o, xo⟩, M, x7, x8, x9⟩ := e12 x w1 w2 w3 w4
    have hc := (e10.2 i hi).2
    refine ⟨i, hi, ?_⟩
    rw [es]
    exact ⟨x5, x6, ⟨o, xo⟩, M, x7, x8, by rw [wl _ o M hc xo x7]; exact x9⟩
  · rw [ei]; exact e14 i hi
  · obtain ⟨x5, x6, x7, x8, x9⟩ := e15 x w1 w2 w3 w4
    refine ⟨x5, x6, x7, x8, fun q => ?_⟩
    obtain ⟨i, i1, i2⟩ := x9 q
    exact ⟨i, i1, by rw [ei]; exact i2⟩
theorem RP_own1 (h : LA c L l c') (e : cCl c L = 5891) (hu : unr c L) (hn : CLN c') (hP : RP χ n t r p f vo Op Oa Ou E O c s) : RP χ n t r p f vo Op Oa Ou E O c' s := by
  obtain ⟨hL, hfi, _, ⟨hS, hC, hG, hLm, hM, hU, hV, hI, hF, hA', hB⟩, hN, hOu, hOp, hOa, hOu2⟩ := hP
  have hch := LA_ch h e
  have hth := TH_refl [] [] [] [] s
  have hKC := own_kc h (Or.inr e) hu hS
  have e3 : cR c' = cR c := h.2.1.2.2.1
  exact ⟨LX_ch hch hth (by rw [h.2.1.2.2.2.1]) (by rw [h.2.1.2.2.2.2.1]) (by decide) hL, hfi, hn, ⟨RSt_fr hch (by decide) hS, RCt_fr hch hth hS (by decide) hC, RGt_fr hch hth hS (by decide) hG, RLt_fr hch hth hS (by decide) hLm, RMt_fr hch hth hS (by decide) (by decide) hM, RUt_fr hch hth hS (by decide) (by decide) hU, RVt_fr hch hth hS hU (by decide) hV, RIt_fr hch hth hS hV (by decide) hI, RFt_own h e hu hS hU hF, RAt_fr hch hth hS (by decide) hA', RBt_mono hKC (KT_refl s) hU.2.1.1 (fun v hv => (hV.2.1 v hv).2.2.1) rfl (Nat.le_refl _) (fun k _ _ => by rw [e3]) (fun _ _ _ => rfl) (fun _ _ _ _ _ => rfl) hB⟩, hN, hOu, hOp, hOa, hOu2⟩
end
