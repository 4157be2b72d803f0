set_option maxRecDepth 100000
set_option maxHeartbeats 4000000
/-! D57: into a unit, and out of it -/
section
variable {χ : Nat → Int32} {n t r p f : Nat} {vo : Nat → Nat} {Op Oa Ou : Nat → Prop} {E O : Nat} {c c' : cS} {s s' : tS}
theorem m_inj (h : RP χ n t r p f vo Op Oa Ou E O c s) {k u : Nat} (hk : k < cnt s 25) (hu : u < cnt s 25) (e : lid c (r + 4) k = lid c (r + 4) u) : k = u := by
  have hM := h.2.2.2.1.2.2.2.2.1
  have h8 := hM.1.2
  have e1 := (hM.2.2 k hk).1
  have e2 := (hM.2.2 u hu).1
  rw [e, e2, z_eq (by omega) (by omega)] at e1
  exact e1.symm
theorem anc_out {u w v : Nat} (hU : RUt r c s) (hu : u < cnt s 35) (h40 : tA s 40 u = Int32.ofNat w) (hw : w < u) (hv : v ≠ u) (h : anc s 60 u v) : anc s 60 w v := by
  have h60 := hU.1.2
  have h' : u = v ∨ (tA s 40 u ≠ -1 ∧ anc s 59 (ca s 40 u) v) := h
  rcases h' with q | ⟨_, q⟩
  · exact absurd q.symm hv
  · rw [ca_of h40 (by omega)] at q
    exact anc_up hU _ _ _ (by omega) q 60 (by omega)
theorem anc_in {u w v : Nat} (hU : RUt r c s) (hu : u < cnt s 35) (h40 : tA s 40 u = Int32.ofNat w) (hw : w < u) (h : anc s 60 w v) : anc s 60 u v := by
  have h60 := hU.1.2
  show u = v ∨ (tA s 40 u ≠ -1 ∧ anc s 59 (ca s 40 u) v)
  right
  rw [ca_of h40 (by omega), h40]
  exact ⟨fun q => by rw [ofNat_ne_m1 (by omega)] at q; exact q, anc_up hU _ _ _ (by omega) h 59 (by omega)⟩
theorem P_enter {u w : Nat} (h : RP χ n t r p f vo Op Oa Ou E O c s) (hw : cnt s 64 = w) (hu : u < cnt s 35) (h40 : tA s 40 u = Int32.ofNat w) (hwu : w < u) (h37 : ca s 37 u = ca s 37 w) (hOuu : Ou u) (h44 : ca s 44 u = 0) :
    RP χ n t r p f vo Op Oa Ou E O (csR c 803 r (.ref (lid c (r + 8) u))) (tsI s 64 (Int32.ofNat u)) ∧ KC r c (csR c 803 r (.ref (lid c (r + 8) u))) ∧ KT s (tsI s 64 (Int32.ofNat u)) ∧ cnt (tsI s 64 (Int32.ofNat u)) 64 = u := by
  obtain ⟨hL, hfi, hn, hQ, hN, hOu, hOp, hOa, hOu2⟩ := h
  obtain ⟨hS, hC, hG, hLm, hM, hU, hV, hI, hF, hA, hB⟩ := hQ
  have h60 := hU.1.2
  have hch : CH [] [] [803] [] c (csR c 803 r (.ref (lid c (r + 8) u))) := CH_R (Or.inl (by simp)) (CH_refl _ _ _ _ c)
  have hth : TH [64] [] [] [] s (tsI s 64 (Int32.ofNat u)) := TH_I (by simp) (TH_refl _ _ _ _ s)
  have hKC : KC r c (csR c 803 r (.ref (lid c (r + 8) u))) := KC_of hch hS (Nat.le_refl _) (by decide)
  have hKT : KT s (tsI s 64 (Int32.ofNat u)) := KT_of hth (by decide)
  have e64 : tI (tsI s 64 (Int32.ofNat u)) 64 = Int32.ofNat u := by rw [t_I_I, if_pos rfl]
  have c64 := cnt_of e64 (by omega)
  obtain ⟨⟨q1, q2, q2'⟩, ⟨q3, q3', q3''⟩, ⟨q4, q5, q6⟩, q, q7, q8, q9, q10, q11, q12, q13, q14⟩ := hI
  rw [hw] at q3'' q9
  refine ⟨⟨LX_ch hch hth rfl rfl (by decide) hL, hfi, CLN_R (by rw [hS.1]) hn, ⟨RSt_fr hch (by decide) hS, RCt_fr hch hth hS (by decide) hC, RGt_fr hch hth hS (by decide) hG, RLt_fr hch hth hS (by decide) hLm, RMt_fr hch hth hS (by decide) (by decide) hM, RUt_fr hch hth hS (by decide) (by decide) hU, RVt_fr hch hth hS hU (by decide) hV, ⟨⟨cok_of e64 (by omega) (by omega), by rw [c64]; exact hu, ?_⟩, ⟨q3, ?_, by rw [c64]; exact h37.trans q3''⟩, ⟨q4, q5, fun i hi => ?_⟩, q, q7, q8, ?_, q10, q11, q12, ?_, ?_⟩, RFt_fr hch hth hS hU (by decide) hF, RAt_fr hch hth hS (by decide) hA, ?_⟩, RNt_fr hth (by decide) hN, by rw [c64]; exact hOuu, hOp, hOa, hOu2⟩, hKC, hKT, c64⟩
  · rw [c64, g_R_R, if_pos ⟨rfl, rfl⟩]; rfl
  · rw [g_R_R, if_neg (by simp)]; exact q3'
  · obtain ⟨g1, g2, g3, g4, g5⟩ := q6 i hi
    refine ⟨g1, g2, g3, g4, ?_⟩
    rw [hw] at g5
    rw [c64, anc_fr hth (by decide)]
    exact anc_in hU hu h40 hwu g5
  · rw [c64, anc_fr hth (by decide)]
    exact anc_in hU hu h40 hwu q9
  · rw [g_R_R, if_neg (by simp)]; exact q13
  · intro k hk ha i hi
    rw [c64, anc_fr hth (by decide)] at ha
    by_cases hku : k = u
    · rw [th_ca hth (by decide), hku, h44] at hi; omega
    · exact q14 k hk (by rw [hw]; exact anc_out hU hu h40 hwu hku ha) i hi
  · exact RBt_mono hKC hKT hU.2.1.1 (fun v hv => (hV.2.1 v hv).2.2.1) rfl (Nat.le_refl _) (fun k hk _ => ch_R hch (RUt_cap hU hk).2.2.2 (by decide) (by decide)) (fun k _ _ => rfl) (fun y _ _ z hz => rfl) hB
theorem sumTo_up {Wt : Nat → Nat} {u W : Nat} : ∀ m, sumTo (fun k => if k = u then W else Wt k) m ≤ sumTo Wt m + (if u < m then W else 0) := by
  intro m
  induction m with
  | zero => exact Nat.zero_le _
  | succ m ih =>
    have e : sumTo (fun k => if k = u then W else Wt k) (m + 1) = sumTo (fun k => if k = u then W else Wt k) m + (if m = u then W else Wt m) := rfl
    have e2 : sumTo Wt (m + 1) = sumTo Wt m + Wt m := rfl
    rw [e, e2]
    by_cases q : m = u
    · rw [if_pos q, if_pos (by omega)]
      rw [if_neg (by omega)] at ih
      omega
    · rw [if_neg q]
      by_cases w : u < m
      · rw [if_pos w] at ih
        rw [if_pos (by omega)]; omega
      · rw [if_neg w] at ih
        rw [if_neg (by omega)]; omega
theorem P_leave {u w a y W H D g : Nat} {Q : Nat → Prop} {Ou' : Nat → Prop} (h : RP χ n t r p f vo Op Oa Ou' (E + W) O c s) (hu : cnt s 64 = u) (h40 : tA s 40 u = Int32.ofNat w) (hwu : w < u) (hOu' : ∀ k, Ou' k → Ou k ∨ k = u) (hnu : ¬ Ou u) (hOuw : Ou w) (hOu3 : ∀ k, Ou k → k < cnt s 35) (hOpw : ∀ y, Op y → Ou (ca s 67 y)) (hvis : ∀ i, i < cnt s 56 → ca s 51 (ca s 57 i) ≠ u)
    (h1603 : cR c 1603 (lid c (r + 8) w) = cR c 1603 (lid c (r + 8) u)) (hy : y < 900) (hH : H ≤ 149) (hD : D ≤ 24) (h42 : tA s 36 u = 3 → tA s 42 u ≠ -1) (hT : TR g Q r c s u H D a y W) :
    RP χ n t r p f vo Op Oa Ou E O (csR (csR c 1611 (lid c (r + 8) u) (.ref a)) 803 r (.ref (lid c (r + 8) w))) (tsI (tsA s 41 u (Int32.ofNat y)) 64 (Int32.ofNat w)) ∧ KC r c (csR (csR c 1611 (lid c (r + 8) u) (.ref a)) 803 r (.ref (lid c (r + 8) w))) ∧ KT s (tsI (tsA s 41 u (Int32.ofNat y)) 64 (Int32.ofNat w)) ∧ cnt (tsI (tsA s 41 u (Int32.ofNat y)) 64 (Int32.ofNat w)) 64 = w := by
  have h0 := h
  obtain ⟨hL, hfi, hn, hQ, hN, hOu, hOp, hOa, hOu2⟩ := h
  obtain ⟨hS, hC, hG, hLm, hM, hU, hV, hI, hF, hA, hB⟩ := hQ
  have h60 := hU.1.2
  have hu35 : u < cnt s 35 := by rw [← hu]; exact hI.1.2.1
  have hcu := (RUt_cap hU hu35).2.2.2
  have hch : CH [] [] [803, 1611] [] c (csR (csR c 1611 (lid c (r + 8) u) (.ref a)) 803 r (.ref (lid c (r + 8) w))) := CH_R (Or.inl (by simp)) (CH_R (Or.inl (by simp)) (CH_refl _ _ _ _ c))
  have hth : TH [64] [] [41] [] s (tsI (tsA s 41 u (Int32.ofNat y)) 64 (Int32.ofNat w)) := TH_I (by simp) (TH_A (by simp) (TH_refl _ _ _ _ s))
  have hKC : KC r c (csR (csR c 1611 (lid c (r + 8) u) (.ref a)) 803 r (.ref (lid c (r + 8) w))) := KC_of hch hS (Nat.le_refl _) (by decide)
  have hKT : KT s (tsI (tsA s 41 u (Int32.ofNat y)) 64 (Int32.ofNat w)) := KT_of hth (by decide)
  have e64 : tI (tsI (tsA s 41 u (Int32.ofNat y)) 64 (Int32.ofNat w)) 64 = Int32.ofNat w := by rw [t_I_I, if_pos rfl]
  have c64 := cnt_of e64 (by omega)
  have hm : ca s 37 w = ca s 37 u := by
    obtain ⟨_, ⟨_, m1, m2⟩, _⟩ := hU.2.2 w (by omega)
    obtain ⟨_, ⟨_, m3, m4⟩, _⟩ := hU.2.2 u hu35
    rw [m2, m4] at h1603
    exact m_inj h0 m1 m3 (Value.ref.inj h1603)
  obtain ⟨⟨q1, q2, q2'⟩, ⟨q3, q3', q3''⟩, ⟨q4, q5, q6⟩, q, q7, q8, q9, q10, q11, q12, q13, q14⟩ := hI
  rw [hu] at q3'' q9
  refine ⟨⟨LX_ch hch hth rfl rfl (by decide) hL, hfi, CLN_R (by show cCl c r = _; rw [hS.1]) (CLN_R (by rw [hcu]) hn), ⟨RSt_fr hch (by decide) hS, RCt_fr hch hth hS (by decide) hC, RGt_fr hch hth hS (by decide) hG, RLt_fr hch hth hS (by decide) hLm, RMt_fr hch hth hS (by decide) (by decide) hM, RUt_fr hch hth hS (by decide) (by decide) hU, RVt_fr hch hth hS hU (by decide) hV, ⟨⟨cok_of e64 (by omega) (by omega), by rw [c64]; show w < cnt s 35; omega, ?_⟩, ⟨q3, ?_, ?_⟩, ⟨q4, q5, fun i hi => ?_⟩, q, q7, ?_, ?_, ?_, ?_, ?_, ?_, ?_⟩, RFt_fr hch hth hS hU (by decide) hF, RAt_fr hch hth hS (by decide) hA, ?_⟩, RNt_fr hth (by decide) hN, by rw [c64]; exact hOuw, ?_, hOa, hOu3⟩, hKC, hKT, c64⟩
  · rw [c64, g_R_R, if_pos ⟨rfl, rfl⟩]; rfl
  · rw [g_R_R, if_neg (by simp), g_R_R, if_neg (by simp)]; exact q3'
  · rw [c64, th_ca hth (by decide), hm]; exact q3''
  · obtain ⟨g1, g2, g3, g4, g5⟩ := q6 i hi
    rw [hu] at g5
    rw [th_aok hth (by decide), th_ca hth (x := 57) (by decide), c64, anc_fr hth (by decide), th_ca hth (by decide)]
    exact ⟨g1, g2, g3, g4, anc_out hU hu35 h40 hwu (hvis i hi) g5⟩
  · rw [th_A hth (by decide)]; exact q8
  · rw [c64, anc_fr hth (by decide)]
    refine anc_out hU hu35 h40 hwu (fun e => ?_) q9
    rw [e, h40, ofNat_ne_m1 (by omega)] at q8
    exact q8
  · rw [th_aok hth (by decide)]; exact q10
  · rw [th_ca hth (by decide)]; exact q11
  · rw [th_ca hth (x := 55) (by decide), th_ca hth (by decide)]; exact q12
  · rw [th_ca hth (by decide), g_R_R, if_neg (by simp), g_R_R, if_neg (by simp)]; exact q13
  · intro k hk ha i hi
    rw [c64, anc_fr hth (by decide)] at ha
    rcases q14 k hk (by rw [hu]; exact anc_in hU hu35 h40 hwu ha) i (by rw [th_ca hth (by decide)] at hi; exact hi) with ⟨j, j1, j2⟩ | w
    · exact Or.inl ⟨j, j1, by rw [th_ca hth (by decide), th_ca hth (by decide)]; exact j2⟩
    · exact Or.inr (by rw [th_ca hth (by decide), th_ca hth (by decide)]; exact w)
  · obtain ⟨Wt, b1, b2⟩ := hB
    refine ⟨fun k => if k = u then W else Wt k, ?_, fun k hk ho => ?_⟩
    · have := sumTo_up (Wt := Wt) (u := u) (W := W) (cnt s 35)
      rw [if_pos hu35] at this
      show sumTo _ (cnt s 35) + E ≤ 60 * cnt s 62
      omega
    · have hk2 : k < cnt s 35 := hk
      have hlid : lid (csR (csR c 1611 (lid c (r + 8) u) (.ref a)) 803 r (.ref (lid c (r + 8) w))) (r + 8) k = lid c (r + 8) k := rfl
      rw [hlid, g_R_R, if_neg (by simp), g_R_R]
      dsimp only
      by_cases e : k = u
      · rw [e, if_pos rfl, if_pos ⟨rfl, rfl⟩]
        refine ⟨g, a, y, rfl, ?_, ?_, h42⟩
        · show tA (tsA s 41 u (Int32.ofNat y)) 41 u = _
          rw [t_A_A, if_pos ⟨rfl, rfl⟩]
        · have t1 := TR_mono hKC hKT hU.2.1.1 (fun v hv => (hV.2.1 v hv).2.2.1) (fun y _ z hz => th_A hth (by simp only [List.mem_cons, List.not_mem_nil, or_false] at hz ⊢; omega) y) hu35 g _ _ _ _ _ (fun z hz => th_A hth (by simp only [List.mem_cons, List.not_mem_nil, or_false] at hz ⊢; omega) _) hT
          exact TR_wkH _ _ _ _ _ _ _ _ _ _ hH hD (Nat.le_refl _) (TR_Q (fun _ _ => trivial) _ _ _ _ _ _ _ t1)
      · have hne : lid c (r + 8) k ≠ lid c (r + 8) u := fun z => e (u_inj h0 hk2 hu35 z)
        rw [if_neg e, if_neg (fun z => hne z.2)]
        obtain ⟨g', a', x', b3, b4, b5, b9⟩ := b2 k hk2 (fun z => by rcases hOu' k z with z | z; exact ho z; exact e z)
        refine ⟨g', a', x', b3, ?_, TR_mono hKC hKT hU.2.1.1 (fun v hv => (hV.2.1 v hv).2.2.1) (fun y _ z hz => th_A hth (by simp only [List.mem_cons, List.not_mem_nil, or_false] at hz ⊢; omega) y) hk2 g' _ _ _ _ _ (fun z hz => th_A hth (by simp only [List.mem_cons, List.not_mem_nil, or_false] at hz ⊢; omega) _) b5, b9⟩
        show tA (tsA s 41 u (Int32.ofNat y)) 41 k = _
        rw [t_A_A, if_neg (fun z => e z.2)]; exact b4
  · intro y' hy'
    rw [th_ca hth (by decide)]
    exact ⟨hOpw y' hy', (hOp y' hy').2⟩
end
