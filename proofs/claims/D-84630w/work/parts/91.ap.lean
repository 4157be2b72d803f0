set_option maxRecDepth 100000
set_option maxHeartbeats 4000000
/-! D41: a sign behind an E -/
section
variable {χ : Nat → Int32} {n t r : Nat} {Oa Ou : Nat → Prop} {O : Nat}
theorem PX_tok {p0 f0 p f p' f' : Nat} {vo0 vo : Nat → Nat} {Op : Nat → Prop} {E H D a x g W : Nat} {c0 c c' : cS} {s0 s s' : tS} (hz : (cLs c0 (r + 8)).length = cnt s0 35)
    (hR : RP χ n t r p f vo Op Oa Ou (E + W) O c s) (hST : ST n r f0 c0 s0 f c s) (hvo : ∀ v, v < cnt s0 50 → vo v = vo0 v) (hx0 : cnt s0 65 ≤ x) (hx1 : x < cnt s 65) (hTR : TR g (fun y => cnt s0 65 ≤ y ∧ y < cnt s 65 ∧ y ≠ x) r c s (cnt s0 64) H D a x W) (h71 : tA s 71 x = -1) (hKS : KS s0 s) (hpf : p0 ≤ f)
    (hw : WK χ n t r p vo Op Oa Ou (E + W) O c s c' s' p' f') : PXo χ n t r f0 p0 vo0 Op Oa Ou E O c0 s0 H D a x c' s' p' f' := by
  have hST2 := (WK_ST hR hw).1
  have hth := hw.2.2.2.1
  have hu : cnt s0 64 < cnt s 35 := by
    rw [← hKS.2.2.2.2]
    exact hR.2.2.2.1.2.2.2.2.2.2.2.1.1.2.1
  have e65 : cnt s' 65 = cnt s 65 := th_cnt hth (by decide)
  have hT := TR_ST hR hST2 hu (fun y hy => hy.2.1) hTR
  refine ⟨vo, g, W, hw.1, ST_trans (ST_lz hz hR hST) hST hST2, hvo, hx0, by omega, ?_, by rw [th_A hth (by simp)]; exact h71, KS_trans hKS (KS_th hth (by decide)), by have := hST2.2.2.2.2.2.1; omega⟩
  rw [e65]; exact hT
/-- an E and the sign 41 behind it -/
theorem S_par (dc dt : Nat) {H D lv : Nat} (k : Int32) (hk : k ≠ 257) (hsub : SP χ n t r Oa Ou O lv H D (dc + 30) 813 (dt + 30) 40) (vo : Nat → Nat) (Op : Nat → Prop) (E p f : Nat) (c : cS) (s : tS) (hlv : cnt s 63 = lv) (hR : RP χ n t r p f vo Op Oa Ou E O c s)
    (hsg : ∀ p' f' (vo' : Nat → Nat) (E' : Nat) (c' : cS) (s' : tS), RP χ n t r p' f' vo' Op Oa Ou E' O c' s' → (cI c' 1004 (r + 16) = 5 ∧ cI c' 1006 (r + 16) = k) = (tI s' 8 = 5 ∧ tI s' 11 = k)) :
    PX χ n t r f p vo Op Oa Ou E O c s H D (bR (cC (dc + 30) 813 [eR (.ref r)] c) fun v14 h13 => cgR h13 800 (.ref r) fun v15 => bV (cC (dc + 30) 1012 [eR v15, eI k] h13) fun h16 => some (.inl (some (eR v14)), h16)) (bI (cT (dt + 30) 40 [eR (.ref 0)] s) fun v26 h25 => bV (cT (dt + 30) 26 [eR (.ref 0), eI k] h25) fun h27 => some (.inl (some (eI v26)), h27)) := by
  have hz := RP_len hR
  rcases hsub vo Op E p f c s hlv hR with hb | ⟨a1, y1, c3, s4, p4, f4, e7, e8, hX1⟩
  · left
    refine pB_step hb (Nat.le_refl _) (Nat.le_refl _) (fun a c' q => by rw [q]; rfl) (fun q s' q1 q2 => ?_)
    rw [q1, b_I, F_sign (dt + 26) _ q2, b_V]
    exact ⟨_, _, rfl, rfl, rfl⟩
  · obtain ⟨vo', g, W, hR4, w2, w3, w4, w5, w6, w7, w8, w9⟩ := hX1
    have hΦ := w2.2.2.2
    rw [e7, e8, b_R, b_I, RP_800 hR4]
    rcases P_sign (dc + 8) (dt + 9) hR4 (hsg _ _ _ _ _ _ hR4) with hb | ⟨_, c4, s5, p5, f5, e9, e10, hW⟩
    · left
      refine pB_lx hb (f1 := f4) (by omega) (by omega) (fun a c' q => by rw [q]; rfl) (fun s' q1 q2 => ?_)
      rw [q1, b_V]
      exact ⟨_, _, rfl, rfl, rfl⟩
    · right
      rw [e9, e10, b_V, b_V]
      exact ⟨a1, y1, c4, s5, p5, f5, rfl, rfl, PX_tok hz hR4 w2 w3 w4 w5 w6 w7 w8 w9 hW⟩
end
