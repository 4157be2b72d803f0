set_option maxRecDepth 100000
set_option maxHeartbeats 4000000
/-! D42: the flags 1612 and 1613 of a unit -/
section
variable {χ : Nat → Int32} {n t r p f : Nat} {vo : Nat → Nat} {Op Oa Ou : Nat → Prop} {E O : Nat} {c : cS} {s : tS}
theorem P_f12 {u x : Nat} (h : RP χ n t r p f vo Op Oa Ou E O c s) (hx : x < cnt s 65) (h67 : ca s 67 x = u) (h66 : ca s 66 x = 25 ∨ ca s 66 x = 26 ∨ ca s 66 x = 27) : RP χ n t r p f vo Op Oa Ou E O (csI c 1612 (lid c (r + 8) u) 1) s ∧ KC r c (csI c 1612 (lid c (r + 8) u) 1) := by
  have h0 := h
  obtain ⟨hL, hfi, hn, hQ, hN, hOu, hOp, hOa, hOu2⟩ := h
  obtain ⟨hS, hC, hG, hLm, hM, hU, hV, hI, ⟨f1, f2⟩, hA, hB⟩ := hQ
  have hu : u < cnt s 35 := by rw [← h67]; exact (f1 x hx).2.1
  have hcu : cCl c (lid c (r + 8) u) = 16 := (hU.2.1.2 u (by omega)).2
  have hch : CH [1612] [] [] [] c (csI c 1612 (lid c (r + 8) u) 1) := CH_I (Or.inl (by simp)) (CH_refl _ _ _ _ c)
  have hth := TH_refl [] [] [] [] s
  have hKC : KC r c (csI c 1612 (lid c (r + 8) u) 1) := by
    refine ⟨Nat.le_refl _, Nat.le_refl _, fun _ _ => ⟨rfl, rfl⟩, fun x a hx _ => ?_, fun _ _ _ _ => rfl, fun _ _ _ _ _ => rfl, fun _ _ _ => rfl, ⟨fun _ _ _ => rfl, fun _ _ _ q => ⟨q, fun _ => rfl⟩, fun a _ q => ?_⟩, fun _ _ => rfl⟩
    · rw [g_I_I, if_neg (by rintro ⟨rfl, _⟩; exact absurd hx (by decide))]
    · rw [g_I_I]
      split
      · rfl
      · exact q
  have i : ∀ y o, y ≠ 1612 → cI (csI c 1612 (lid c (r + 8) u) 1) y o = cI c y o := fun y o hy => by rw [g_I_I, if_neg (fun q => hy q.1)]
  have j : ∀ o, cI (csI c 1612 (lid c (r + 8) u) 1) 1612 o = 1 ∨ cI (csI c 1612 (lid c (r + 8) u) 1) 1612 o = cI c 1612 o := fun o => by
    rw [g_I_I]
    by_cases q : o = lid c (r + 8) u
    · left; rw [if_pos ⟨rfl, q⟩]
    · right; rw [if_neg (fun w => q w.2)]
  refine ⟨⟨LX_ch hch hth rfl rfl (by decide) hL, hfi, CLN_I (by rw [hcu]) hn, ⟨RSt_fr hch (by decide) hS, RCt_fr hch hth hS (by decide) hC, RGt_fr hch hth hS (by decide) hG, RLt_fr hch hth hS (by decide) hLm, RMt_fr hch hth hS (by decide) (by decide) hM, RUt_fr hch hth hS (by decide) (by decide) hU, RVt_fr hch hth hS hU (by decide) hV, RIt_fr hch hth hS hV (by decide) hI, ⟨f1, fun k hk => ?_⟩, RAt_fr hch hth hS (by decide) hA, ?_⟩, hN, hOu, hOp, hOa, hOu2⟩, hKC⟩
  · obtain ⟨e1, e2, e3, e4, e5, e6, e7, ⟨b0, b1, b2, b3, e8, e8'⟩, e9, e10, e11⟩ := f2 k hk
    refine ⟨fun y hy => ?_, fun q => ?_, fun x hx ho q z => ?_, fun q => e4 ((i 1613 _ (by decide)).symm.trans q), fun x hx ho q z => (i 1613 _ (by decide)).trans (e5 x hx ho q z), fun q => e6 ((i 1616 _ (by decide)).symm.trans q), fun x hx ho q z => (i 1616 _ (by decide)).trans (e7 x hx ho q z), ⟨b0, b1, b2, b3, (i 1615 _ (by decide)).trans e8, e8'⟩, e9, e10, e11⟩
    · by_cases q : y = 1612
      · rw [q]
        rcases j (lid c (r + 8) k) with w | w
        · exact Or.inr w
        · have := e1 1612 (by simp)
          rw [← w] at this
          exact this
      · have := e1 y hy
        rw [← i y _ q] at this
        exact this
    · have q' : cI (csI c 1612 (lid c (r + 8) u) 1) 1612 (lid c (r + 8) k) = 1 := q
      by_cases hku : k = u
      · exact ⟨x, hx, by rw [hku]; exact h67, h66⟩
      · by_cases w : lid c (r + 8) k = lid c (r + 8) u
        · exact absurd (u_inj h0 hk hu w) hku
        · rw [g_I_I, if_neg (fun z => w z.2)] at q'
          exact e2 q'
    · rcases j (lid c (r + 8) k) with w | w
      · exact w
      · exact w.trans (e3 x hx ho q z)
  · exact RBt_mono hKC (KT_of hth (by decide)) hU.2.1.1 (fun v hv => (hV.2.1 v hv).2.2.1) rfl (Nat.le_refl _) (fun _ _ _ => rfl) (fun _ _ _ => rfl) (fun _ _ _ _ _ => rfl) hB
end
