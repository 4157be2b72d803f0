set_option maxRecDepth 100000
set_option maxHeartbeats 4000000
/-! D45: helpers: frames behind each other; the next word where the reference's arrays are ahead; trees stay by what was before an object was made -/
section
variable {XI XL XR XC XI' XL' XR' XC' : List Nat} {a b c c' : cS} {s s' : tS}
theorem live_ch (h : CH XI XL XR XC c c') (hd : dj [3301, 3100, 3000, 2000] XR = true) {o : Nat} (hl : live c o) : live c' o := by
  refine ⟨by rw [(h.2.1 o hl.1).1]; exact hl.1, fun q => hl.2 ?_⟩
  have k := fun x hx => h.2.2.2.2.1 x o (dj_not hd (x := x) hx) hl
  unfold raw0 at q ⊢
  rw [(h.2.1 o hl.1).1, k 3301 (by simp), k 3100 (by simp), k 3000 (by simp), k 2000 (by simp)] at q
  exact q
theorem CH_trans (hd : dj [3301, 3100, 3000, 2000] XR = true) (h : CH XI XL XR XC a b) (k : CH XI XL XR XC b c) : CH XI XL XR XC a c := by
  have hl := fun o (q : live a o) => live_ch h hd q
  obtain ⟨h1, h2, h3, h4, h5, h6, h7, h8⟩ := h
  obtain ⟨k1, k2, k3, k4, k5, k6, k7, k8⟩ := k
  refine ⟨Nat.le_trans h1 k1, fun o ho => ?_, fun x o hx q => (k3 x o hx (hl o q)).trans (h3 x o hx q), fun x o hx q => (k4 x o hx (hl o q)).trans (h4 x o hx q), fun x o hx q => (k5 x o hx (hl o q)).trans (h5 x o hx q), fun o hx ho => ?_, fun o j ho => ?_, fun q => k8 (h8 q)⟩
  · obtain ⟨e1, e2⟩ := h2 o ho
    obtain ⟨g1, g2⟩ := k2 o (by rw [e1]; exact ho)
    exact ⟨g1.trans e1, g2.trans e2⟩
  · obtain ⟨e1, e2⟩ := h2 o ho
    exact (k6 o (by rw [e1]; exact hx) (by rw [e1]; exact ho)).trans (h6 o hx ho)
  · obtain ⟨e1, e2⟩ := h2 o (by rw [ho]; decide)
    exact (k7 o j (by rw [e1]; exact ho)).trans (h7 o j ho)
theorem CH_wk (d : (XI.all (fun x => XI'.contains x) && XL.all (fun x => XL'.contains x) && XR.all (fun x => XR'.contains x) && XC.all (fun x => XC'.contains x)) = true) (h : CH XI XL XR XC c c') : CH XI' XL' XR' XC' c c' := by
  simp only [Bool.and_eq_true, List.all_eq_true, List.contains_iff_mem] at d
  obtain ⟨⟨⟨d1, d2⟩, d3⟩, d4⟩ := d
  obtain ⟨h1, h2, h3, h4, h5, h6, h7, h8⟩ := h
  exact ⟨h1, h2, fun x o hx q => h3 x o (fun z => hx (d1 x z)) q, fun x o hx q => h4 x o (fun z => hx (d2 x z)) q, fun x o hx q => h5 x o (fun z => hx (d3 x z)) q, fun o hx q => h6 o (fun z => hx (d4 _ z)) q, h7, h8⟩
end
/-- the reference's int arrays are others -/
def stA (s : tS) (G : Nat → Nat → Int32) : tS := (s.1, s.2.1, G, s.2.2.2)
theorem stA_stA (s : tS) (G F : Nat → Nat → Int32) : stA (stA s G) F = stA s F := rfl
theorem stA_self (s : tS) : stA s (tA s) = s := rfl
theorem tA_stA (s : tS) (G : Nat → Nat → Int32) : tA (stA s G) = G := rfl
section
variable {χ : Nat → Int32} {n t r p f : Nat} {vo : Nat → Nat} {Op Oa Ou : Nat → Prop} {E O : Nat} {c c' : cS} {s s' : tS}
theorem P_nextA (d e : Nat) (h : RP χ n t r p f vo Op Oa Ou E O c s) (G : Nat → Nat → Int32) (hG : ∀ k, G 3 k = tA s 3 k) :
    lxBad (cC (d + 20) 1001 [eR (.ref (r + 16))] c) (cT (e + 20) 6 [eR (.ref 0)] (stA s G)) c ∨ ∃ c' s' p' f', cC (d + 20) 1001 [eR (.ref (r + 16))] c = some (.inl none, c') ∧ cT (e + 20) 6 [eR (.ref 0)] (stA s G) = some (.inl none, stA s' G) ∧ WK χ n t r p vo Op Oa Ou E O c s c' s' p' f' ∧ tA s' = tA s := by
  obtain ⟨a1, a2, a3⟩ := h.1.1
  have hL : LXb χ n (r + 16) t 4 (r + 19) (r + 17) p c (stA s G) := ⟨a1, ⟨a2.1, a2.2.1, fun k hk => (hG k).trans (a2.2.2.1 k hk), a2.2.2.2⟩, a3⟩
  rcases J_next d e hL h.2.1 with hb | ⟨c', s', p', f', h1, h2, h3⟩
  · left; exact hb
  · right
    obtain ⟨⟨⟨b1, b2, b3⟩, b4⟩, g1, g2, g3, g4, ⟨l1, l2, l3, l4⟩, g5⟩ := h3
    have e3 : tA s' = G := l3
    refine ⟨c', stA s' (tA s), p', f', h1, ?_, WK_of h (cC_cln h1 h.2.2.1) ⟨⟨⟨b1, ⟨b2.1, b2.2.1, a2.2.2.1, b2.2.2.2⟩, b3⟩, b4⟩, g1, g2, g3, g4, ⟨l1, l2, rfl, l4⟩, g5⟩, rfl⟩
    rw [h2, stA_stA, ← e3]
    rfl
/-- fields that trees alone read -/
def xI : List Nat := [2500, 2501, 3102, 3300]
def xR : List Nat := [1900, 1901, 1902, 2000, 2001, 2002, 2100, 2101, 2102, 2400, 2401, 2600, 2700, 3100, 3101, 3200, 3201, 3301, 3302]
theorem RP_mix {p0 f0 E0 O0 : Nat} {vo0 : Nat → Nat} {Op0 Oa0 : Nat → Prop} {c0 : cS} {s0 : tS} (h0 : RP χ n t r p0 f0 vo0 Op0 Oa0 Ou E0 O0 c0 s0) (h : RP χ n t r p f vo Op Oa Ou E O c s) (hKC : KC r c0 c') (hKT : KT s0 s) (hch : CH xI [] xR [] c c')
    (hA : ∀ o, cCl c o ≠ 0 → cCl c o ≠ 6009 → cAI c' o = cAI c o ∧ cAL c' o = cAL c o) (hn : CLN c') (h35 : cnt s 35 = cnt s0 35) (hE : E + 60 * cnt s0 62 ≤ E0 + 60 * cnt s 62)
    (h1 : ∀ k, k < cnt s0 35 → ¬ Ou k → cR c' 1611 (lid c0 (r + 8) k) = cR c0 1611 (lid c0 (r + 8) k)) (h2 : ∀ k, k < cnt s0 35 → ¬ Ou k → tA s 41 k = tA s0 41 k) (h3 : ∀ y, y < cnt s0 65 → ¬ Ou (ca s0 67 y) → ∀ z, z ∈ [66, 67, 68, 69, 70, 71, 72] → tA s z y = tA s0 z y) : RP χ n t r p f vo Op Oa Ou E O c' s := by
  obtain ⟨hL, hfi, _, ⟨hS, hC, hG, hLm, hM, hU, hV, hI, hF, hA', hB⟩, hN, hOu, hOp, hOa, hOu2⟩ := h
  have hth := TH_refl [] [] [] [] s
  have ht5 : cCl c t = 5100 := hL.1.1.2.2.2.1
  have hk5 : cCl c (r + 19) = 6011 := hL.1.2.2.1.2.1
  have hV0 := h0.2.2.2.1.2.2.2.2.2.2.1
  refine ⟨LX_ch hch hth (hA t (by rw [ht5]; decide) (by rw [ht5]; decide)).1 (hA (r + 19) (by rw [hk5]; decide) (by rw [hk5]; decide)).2 (by decide) hL, hfi, hn, ⟨RSt_fr hch (by decide) hS, RCt_fr hch hth hS (by decide) hC, RGt_fr hch hth hS (by decide) hG, RLt_fr hch hth hS (by decide) hLm, RMt_fr hch hth hS (by decide) (by decide) hM, RUt_fr hch hth hS (by decide) (by decide) hU, RVt_fr hch hth hS hU (by decide) hV, RIt_fr hch hth hS hV (by decide) hI, RFt_fr hch hth hS hU (by decide) hF, RAt_fr hch hth hS (by decide) hA', RBt_mono hKC hKT (RP_len h0) (fun v hv => (hV0.2.1 v hv).2.2.1) h35 hE h1 h2 h3 h0.2.2.2.1.2.2.2.2.2.2.2.2.2.2⟩, hN, hOu, hOp, hOa, hOu2⟩
end
