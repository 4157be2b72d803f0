set_option maxRecDepth 100000
set_option maxHeartbeats 4000000
/-! D70: the atom of '{' -/
section
variable {χ : Nat → Int32} {n t r : Nat} {Oa Ou : Nat → Prop} {O : Nat}
theorem S_row (dc dt : Nat) {H D lv : Nat} (hH : 1 ≤ H) (hsub : SP χ n t r Oa Ou O lv H D (dc + 30) 813 (dt + 30) 40) (vo : Nat → Nat) (Op : Nat → Prop) (E p f : Nat) (c : cS) (s : tS) (hlv : cnt s 63 = lv) (hR : RP χ n t r p f vo Op Oa Ou E O c s) (hs : tI s 8 = 5 ∧ tI s 11 = 123) :
    PX χ n t r f p vo Op Oa Ou E O c s H D (bV (cC (dc + 31) 1001 [eR (.ref (r + 16))] c) fun h18 => bR (cC (dc + 31) 834 [eR (.ref r)] h18) fun v20 h19 => cgR h19 800 (.ref r) fun v21 => bV (cC (dc + 31) 1012 [eR v21, eI 125] h19) fun h22 => some (.inl (some (eR v20)), h22)) (bI (cT (dt + 31) 71 [eR (.ref 0)] s) fun v29 h28 => some (.inl (some (eI v29)), h28)) := by
  have hz := RP_len hR
  rw [kX7_row, row_u, t_signE (dt + 26), if_pos ⟨hR.2.1, hs⟩, a_VV, a_IV]
  refine J_nx (dc + 11) (dt + 9) hR (Nat.le_refl _) (Nat.le_refl _) (fun s' q2 => ?_) (fun c' s' p' f' hW hST hpf hcr => ?_)
  · rw [b_V]
    unfold rowR
    rw [F_e (dt + 26) q2, b_I, F_isSign (dt + 28) _ q2, b_I, if_pos rfl, F_sign (dt + 26) _ q2, b_V, b_I]
    exact ⟨_, _, rfl, rfl, rfl⟩
  obtain ⟨m1, m2, m3⟩ := hcr (by rw [hs.1]; decide)
  have hth := hW.2.2.2.1
  rw [b_V, kX8_row, r_cck, if_pos hW.1.2.2.2.1.1.1]
  refine J_row (kC := fun v20 h19 => cgR h19 800 (.ref r) fun v21 => bV (cC (dc + 31) 1012 [eR v21, eI 125] h19) fun h22 => some (.inl (some (eR v20)), h22)) (kT := fun v29 h28 => some (.inl (some (eI v29)), h28)) dc dt hH hsub hlv hz hR.2.2.1 (fun x s' _ => ⟨_, _, rfl, rfl, rfl⟩) hW.1 hST (fun _ _ => rfl) (KS_th hth (by decide)) hpf (by omega) (by omega) (fun a x c2 s2 p2 f2 hX => ?_)
  obtain ⟨vo', g, W, hR4, w2, w3, w4, w5, w6, w7, w8, w9⟩ := hX
  have hΦ := w2.2.2.2
  show PX χ n t r f p vo Op Oa Ou E O c s H D (cgR c2 800 (.ref r) fun v21 => bV (cC (dc + 31) 1012 [eR v21, eI 125] c2) fun h22 => some (.inl (some (eR (.ref a))), h22)) _
  rw [r_cgR, if_pos hR4.2.2.2.1.1.1, hR4.2.2.2.1.1.2.1]
  rcases P_sign (dc + 9) (dt + 9) hR4 (lx_sgn hR4.1 (x := 125) (by decide)) with hb | ⟨_, c4, s5, p5, f5, e9, e10, hW5⟩
  · left
    refine pB_lx hb (f1 := f2) (by omega) (by omega) (fun a c' q => by rw [q]; rfl) (fun s' q1 q2 => ?_)
    rw [q1, b_V]
    exact ⟨_, _, rfl, rfl, rfl⟩
  · right
    rw [e9, e10, b_V, b_V]
    exact ⟨a, x, c4, s5, p5, f5, rfl, rfl, PX_tok hz hR4 w2 w3 w4 w5 w6 w7 w8 w9 hW5⟩
end
