set_option maxRecDepth 100000
set_option maxHeartbeats 4000000
/-! D82: a variable is reached; a use -/
section
variable {χ : Nat → Int32} {n t r p f : Nat} {vo : Nat → Nat} {Op Oa Ou : Nat → Prop} {E O : Nat} {c : cS} {s : tS}
theorem chO_of {v : Nat} (h : RP χ n t r p f vo Op Oa Ou E O c s) (hv : v < cnt s 50) : ∀ g w, w < cnt s 35 → anc s g w (ca s 51 v) → chO g s w v := by
  have hU := h.2.2.2.1.2.2.2.2.2.1
  have hV := h.2.2.2.1.2.2.2.2.2.2.1
  have h60 := hU.1.2
  have e51 := (hV.2.1 v hv).2.1.1
  intro g
  induction g with
  | zero => intro w _ h; exact h.elim
  | succ g ih =>
    intro w hw ha
    unfold chO
    refine ⟨by omega, ?_⟩
    by_cases q : tA s 51 v = Int32.ofNat w
    · exact Or.inl q
    · right
      have ha' : w = ca s 51 v ∨ (tA s 40 w ≠ -1 ∧ anc s g (ca s 40 w) (ca s 51 v)) := ha
      rcases ha' with e | ⟨a1, a2⟩
      · exact absurd (by rw [e]; exact e51) q
      · obtain ⟨_, _, q3, _⟩ := hU.2.2 w hw
        rcases q3 with q3 | ⟨y1, y2, _⟩
        · exact absurd q3.1 a1
        · obtain ⟨z1, z2⟩ := (hV.2.2.2 w hw).1
          exact ⟨q, y1.1, y2, z1, z2, ih _ (by omega) a2⟩
end
section
variable {χ : Nat → Int32} {n t r p f : Nat} {vo : Nat → Nat} {Op Oa Ou : Nat → Prop} {E O : Nat}
theorem P_reach (d : Nat) {v : Nat} : ∀ (g u : Nat) (c : cS) (s : tS), chO g s u v → RP χ n t r p f vo Op Oa Ou E O c s → u < cnt s 35 → anc s 60 (cnt s 64) u → v < cnt s 50 → visV s v →
    ∃ c' o', cC (d + g + 13) 1603 [eR (.ref (lid c (r + 8) u)), eR (.ref (vo v))] c = some (.inl (some (eR (.ref o'))), c') ∧ RP χ n t r p f vo Op Oa Ou E O c' (capA g s u v) ∧ KC r c c' ∧ KT s (capA g s u v) ∧ KS s (capA g s u v) ∧ vR r vo c' (capA g s u v) u v o' ∧ (∀ b, raw c b → raw c' b) ∧ cNx c' ≤ cNx c + 2 * g ∧ cSl c' ≤ cSl c + 23 * g ∧ (∀ x b, cCl c b ≠ 0 → cR c' x b = cR c x b) := by
  intro g
  induction g with
  | zero => intro u c s h; exact h.elim
  | succ g ih =>
    intro u c s hO h hu hanc hv hvis
    have hU := h.2.2.2.1.2.2.2.2.2.1
    have hV := h.2.2.2.1.2.2.2.2.2.2.1
    have hcu := (RUt_cap hU hu).2.2.2
    obtain ⟨y1, y2, y3, y4, y5, y6, y7, y8⟩ := hV.2.1 v hv
    rw [show d + (g + 1) + 13 = (d + g + 13) + 1 from by omega, kX16_reach, r_cck, if_pos hcu, uX16_reach, r_cgR, if_pos y1, y4, meq_ref]
    unfold chO at hO
    unfold capA
    obtain ⟨hu60, q | ⟨q, h2, h3, h4, h5, h6⟩⟩ := hO
    · rw [if_pos q, ca_of q (by omega), if_pos rfl]
      exact ⟨c, vo v, rfl, h, KC_refl r c, KT_refl s, KS_refl s, Or.inl ⟨q, rfl⟩, fun _ q => q, by omega, by omega, fun _ _ _ => rfl⟩
    · have hne : ¬ lid c (r + 8) (ca s 51 v) = lid c (r + 8) u := fun z => q (by rw [← u_inj h y3 hu z]; exact y2.1)
      have h40 : tA s 40 u ≠ -1 := by rw [h2, ne_eq, ofNat_ne_m1 (by omega)]; exact id
      have h1604 : cR c 1604 (lid c (r + 8) u) = .ref (lid c (r + 8) (ca s 40 u)) := by
        rcases (hU.2.2 u hu).2.2.1 with z | ⟨_, _, _, z⟩
        · exact absurd z.1 h40
        · exact z
      rw [if_neg q, if_neg hne, r_cgR, if_pos hcu, h1604]
      obtain ⟨c1, o1, e1, hR1, hKC1, hKT1, hKS1, hvR1, hraw1, n1, s1, old1⟩ := ih (ca s 40 u) c s h6 h (by omega) (anc_nx hU h40 h.2.2.2.1.2.2.2.2.2.2.2.1.1.2.1 hanc) hv hvis
      have hth := capA_th g s (ca s 40 u) v
      rw [e1, b_R]
      generalize hs1 : capA g s (ca s 40 u) v = t1 at *
      have n35 : cnt t1 35 = cnt s 35 := th_cnt hth (by decide)
      have hlid : lid c1 (r + 8) u = lid c (r + 8) u := hKC1.2.2.2.2.2.2.2.2 u (by rw [RP_len h]; exact hu)
      obtain ⟨c2, o2, e2, hR2, hKC2, hKT2, hKS2, hvR2, hraw2, n2, s2, old2⟩ := P_cap (d + g + 1) (xo := vo v) (o := o1) hR1 (u := u) (v := v) (by omega) (by rw [anc_fr hth (by decide), th_cnt hth (by decide)]; exact hanc) (by rw [th_A hth (by decide)]; exact h40) (by rw [th_cnt hth (by decide)]; exact hv) (by rw [th_A hth (by decide)]; exact q) (by rw [th_ca hth (by decide)]; exact hvR1) (kc_cl hKC1 y1 (by decide)) (visV_th hth hvis)
      rw [hlid] at e2
      exact ⟨c2, o2, e2, hR2, KC_trans (by rw [RP_len h, RP_len hR1, n35]; exact Nat.le_refl _) hKC1 hKC2, KT_trans hKT1 hKT2, KS_trans hKS1 hKS2, hvR2, fun b q => hraw2 b (hraw1 b q), by omega, by omega, fun x b hb => (old2 x b (by rw [(hKC1.2.2.1 b hb).1]; exact hb)).trans (old1 x b hb)⟩
end
/-! what is captured commutes with the other writes -/
theorem st_ext {s s' : tS} (h1 : s.1 = s'.1) (h2 : s.2.1 = s'.2.1) (h3 : ∀ y i, tA s y i = tA s' y i) (h4 : s.2.2.2 = s'.2.2.2) : s = s' := by
  obtain ⟨a1, a2, a3, a4⟩ := s
  obtain ⟨b1, b2, b3, b4⟩ := s'
  have h3' : a3 = b3 := funext fun y => funext fun i => h3 y i
  simp only at h1 h2 h4
  rw [h1, h2, h3', h4]
theorem capT_pt (s : tS) (u v : Nat) : capT (ptT s) u v = ptT (capT s u v) := by
  have e : hasB (ptT s) u v = hasB s u v := rfl
  unfold capT
  rw [e]
  split <;> rfl
theorem capT_ov (z s : tS) (u v : Nat) : capT (ov z s) u v = ov z (capT s u v) := by
  have e : hasB (ov z s) u v = hasB s u v := rfl
  unfold capT
  rw [e]
  split <;> rfl
theorem capT_nd (s : tS) (k a b : Int32) (u v : Nat) : capT (ndT s k a b) u v = ndT (capT s u v) k a b := by
  have hn := nd_th s k a b
  have e4 : ca (ndT s k a b) 44 u = ca s 44 u := th_ca hn (by decide) u
  have e : hasB (ndT s k a b) u v = hasB s u v := hasB_eq e4 (fun i _ => th_A hn (by decide) _)
  have e65 : cnt (capT s u v) 65 = cnt s 65 := th_cnt (capT_th s u v) (by decide)
  have hI : (capT s u v).1 = s.1 := by unfold capT; split <;> rfl
  have hL : (capT s u v).2.1 = s.2.1 := by unfold capT; split <;> rfl
  have hB : (capT s u v).2.2.2 = s.2.2.2 := by unfold capT; split <;> rfl
  have hI2 : (capT (ndT s k a b) u v).1 = (ndT s k a b).1 := by unfold capT; split <;> rfl
  have hL2 : (capT (ndT s k a b) u v).2.1 = (ndT s k a b).2.1 := by unfold capT; split <;> rfl
  have hB2 : (capT (ndT s k a b) u v).2.2.2 = (ndT s k a b).2.2.2 := by unfold capT; split <;> rfl
  refine st_ext ?_ ?_ (fun y i => ?_) ?_
  · rw [hI2]
    show (tsI s 65 (tI s 65 + 1)).1 = (tsI (capT s u v) 65 (tI (capT s u v) 65 + 1)).1
    unfold tsI tI
    rw [hI]
  · rw [hL2]
    show s.2.1 = (capT s u v).2.1
    rw [hL]
  · have hn2 := nd_th (capT s u v) k a b
    have e64 : tI (capT s u v) 64 = tI s 64 := th_I (capT_th s u v) (by decide)
    by_cases hy : y ∈ [66, 67, 68, 69, 70, 71, 72]
    · rw [th_A (capT_th _ u v) (by simp only [List.mem_cons, List.not_mem_nil, or_false] at hy ⊢; omega)]
      by_cases hi : i = cnt s 65
      · obtain ⟨n1, n2, n3, n4, n5, n6, n7⟩ := nd_new s k a b
        obtain ⟨m1, m2, m3, m4, m5, m6, m7⟩ := nd_new (capT s u v) k a b
        rw [e65] at m1 m2 m3 m4 m5 m6 m7
        rw [hi]
        simp only [List.mem_cons, List.not_mem_nil, or_false] at hy
        rcases hy with rfl | rfl | rfl | rfl | rfl | rfl | rfl
        · rw [n1, m1]
        · rw [n2, m2, e64]
        · rw [n3, m3]
        · rw [n4, m4]
        · rw [n5, m5]
        · rw [n6, m6]
        · rw [n7, m7]
      · rw [nd_old s _ _ _ hi, nd_old (capT s u v) _ _ _ (by rw [e65]; exact hi), th_A (capT_th s u v) (by simp only [List.mem_cons, List.not_mem_nil, or_false] at hy ⊢; omega)]
    · rw [th_A hn2 hy]
      unfold capT
      rw [e, e4]
      by_cases q : hasB s u v = true
      · rw [if_pos q, if_pos q, th_A hn hy]
      · rw [if_neg q, if_neg q, t_A_A, t_A_A, t_A_A, t_A_A, th_A hn hy]
  · rw [hB2]
    show s.2.2.2 = (capT s u v).2.2.2
    rw [hB]
theorem capA_F {F : tS → tS} (h51 : ∀ s v, tA (F s) 51 v = tA s 51 v) (h40 : ∀ s w, tA (F s) 40 w = tA s 40 w) (hT : ∀ s u v, capT (F s) u v = F (capT s u v)) {v : Nat} : ∀ (g : Nat) (s : tS) (u : Nat), capA g (F s) u v = F (capA g s u v) := by
  intro g
  induction g with
  | zero => intro s u; rfl
  | succ g ih =>
    intro s u
    unfold capA
    rw [h51, ca_eq (h40 s u)]
    by_cases q : tA s 51 v = Int32.ofNat u
    · rw [if_pos q, if_pos q]
    · rw [if_neg q, if_neg q, ih, hT]
theorem capA_all (z s : tS) (k a b : Int32) (g u v : Nat) : capA g (ov z (ndT (ptT s) k a b)) u v = ov z (ndT (ptT (capA g s u v)) k a b) := by
  rw [capA_F (F := ov z) (fun _ _ => rfl) (fun _ _ => rfl) (fun s u v => capT_ov z s u v), capA_F (F := fun s => ndT s k a b) (fun s v => th_A (nd_th s k a b) (by decide) v) (fun s v => th_A (nd_th s k a b) (by decide) v) (fun s u v => capT_nd s k a b u v), capA_F (F := ptT) (fun _ _ => rfl) (fun _ _ => rfl) (fun s u v => capT_pt s u v)]
theorem capA_nd (s : tS) (k a b : Int32) (g u v : Nat) : capA g (ndT (ptT s) k a b) u v = ndT (ptT (capA g s u v)) k a b := by
  rw [capA_F (F := fun s => ndT s k a b) (fun s v => th_A (nd_th s k a b) (by decide) v) (fun s v => th_A (nd_th s k a b) (by decide) v) (fun s u v => capT_nd s k a b u v), capA_F (F := ptT) (fun _ _ => rfl) (fun _ _ => rfl) (fun s u v => capT_pt s u v)]
