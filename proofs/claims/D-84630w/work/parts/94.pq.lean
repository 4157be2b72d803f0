set_option maxRecDepth 100000
set_option maxHeartbeats 4000000
/-! D44: an asking node is closed -/
section
variable {χ : Nat → Int32} {n t r p f : Nat} {vo : Nat → Nat} {Op Oa Ou : Nat → Prop} {E O : Nat} {c : cS} {s : tS}
theorem P_close27 {N u : Nat} (h : RP χ n t r p f vo (fun y => Op y ∨ y = N) Oa Ou E O c s) (hk : ca s 66 N = 27) (h67 : ca s 67 N = u) (h12 : cI c 1612 (lid c (r + 8) u) = 1) (h13 : cI c 1613 (lid c (r + 8) u) = 1) : RP χ n t r p f vo Op Oa Ou E O c s := by
  obtain ⟨hL, hfi, hn, hQ, hN, hOu, hOp, hOa, hOu2⟩ := h
  obtain ⟨hS, hC, hG, hLm, hM, hU, hV, hI, ⟨f1, f2⟩, hA, hB⟩ := hQ
  have cl : ∀ x j, ca s 66 x = j → j ≠ 27 → ¬ Op x → ¬ (Op x ∨ x = N) := by
    intro x j e q ho z
    rcases z with z | z
    · exact ho z
    · rw [z] at e; omega
  refine ⟨hL, hfi, hn, ⟨hS, hC, hG, hLm, hM, hU, hV, hI, ⟨f1, fun u' hu => ?_⟩, hA, hB⟩, hN, hOu, fun y hy => hOp y (Or.inl hy), hOa, hOu2⟩
  obtain ⟨e1, e2, e3, e4, e5, e6, e7, ⟨b0, b1, b2, b3, e8, e8'⟩, e9, ⟨K, e10, ⟨X, hX, e11⟩, e12⟩, K2, e13, ⟨X2, hX2, e14⟩, e15⟩ := f2 u' hu
  refine ⟨e1, e2, fun x hx ho q z => ?_, e4, fun x hx ho q z => ?_, e6, fun x hx ho q z => e7 x hx (cl x _ z (by omega) ho) q z, ⟨b0, b1, b2, b3, e8, fun m hm => ⟨fun q => by obtain ⟨x, x1, x2, x3⟩ := (e8' m hm).1 q; exact ⟨x, x1, fun w => x2 (Or.inl w), x3⟩, fun x hx ho q z => (e8' m hm).2 x hx (cl x _ z (by omega) ho) q z⟩⟩, fun x hx ho z => e9 x hx (cl x _ z (by omega) ho) z, ⟨K, e10, ⟨X, hX, fun i hi => ?_⟩, fun x hx ho q z => e12 x hx (cl x _ z (by omega) ho) q z⟩, K2, e13, ⟨X2, hX2, e14⟩, fun x hx ho q z => e15 x hx (cl x _ z (by omega) ho) q z⟩
  · by_cases w : x = N
    · rw [w, h67] at q
      rw [← q]; exact h12
    · exact e3 x hx (by rintro (z | z); exact ho z; exact w z) q z
  · by_cases w : x = N
    · rw [w, h67] at q
      rw [← q]; exact h13
    · exact e5 x hx (by rintro (z | z); exact ho z; exact w z) q z
  · obtain ⟨x1, x2, x3⟩ := e11 i hi
    exact ⟨x1, fun q => x2 (Or.inl q), x3⟩
end
