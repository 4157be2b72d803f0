set_option maxRecDepth 100000
set_option maxHeartbeats 4000000
/-! D58: a unit's body -/
theorem a_RR {X : Type} (r : mR X) (K K2 : Value → X → mR X) : bR (bR r K) K2 = bR r (fun v h => bR (K v h) K2) := by
  rcases r with _ | ⟨((_ | (a | (a | a))) | a), h⟩ <;> rfl
theorem ov_nu (z s : tS) (u : Nat) (so m w pl : Int32) (nam : Int64) : ov z (nuT s u so m w pl nam) = nuT (ov z s) u so m w pl nam := by
  unfold nuT
  rw [ov_B z _ (by decide)]
  simp only [ov_A]
  rw [ov_I z s (by decide)]
theorem ov_nd (z s : tS) (k a b : Int32) : ov z (ndT s k a b) = ndT (ov z s) k a b := by
  unfold ndT
  simp only [ov_A]
  rw [ov_I z s (by decide), ov_cnt z s (x := 65) (by decide), ov_tI z s (x := 65) (by decide), ov_tI z s (x := 64) (by decide)]
theorem TR_H {r : Nat} {c : cS} {s : tS} {Q : Nat → Prop} : ∀ g u H D a x W, TR g Q r c s u H D a x W → 1 ≤ H := by
  intro g
  induction g with
  | zero => intro u H D a x W h; exact absurd h (by unfold TR; exact id)
  | succ g ih =>
    intro u H D a x W h
    unfold TR at h
    rcases h with ⟨_, L, b, _, _, _, h⟩ | ⟨_, _, _, _, h, _⟩
    · exact ih _ _ _ _ _ _ h
    · exact h
section
variable {χ : Nat → Int32} {n t r : Nat} {Oa Ou : Nat → Prop} {O : Nat}
variable {f0 p0 : Nat} {vo0 : Nat → Nat} {Op : Nat → Prop} {E X N K p f : Nat} {L : List cE} {c0 c : cS} {s0 s : tS} {vo : Nat → Nat} {vq : Nat → Nat} {Opq Oaq Ouq : Nat → Prop} {Eq' Oq' : Nat} {sq : tS} {Hq Dq : Nat} {kC : cS → cRes} {kT : tS → tR}
/-- a part is counted -/
theorem J_part (dc dt : Nat) {z : Int32} (hR : RP χ n t r p f vo Op Oa Ou E O c s)
    (hgo : RP χ n t r p f vo Op Oa Ou (E + 60) O (ptC c r) (ptT s) → ST n r f c s f (ptC c r) (ptT s) → cnt (ptT s) 62 = cnt s 62 + 1 → PX χ n t r f p0 vq Opq Oaq Ouq Eq' Oq' c sq Hq Dq (kC (ptC c r)) (kT (ptT s))) :
    PX χ n t r f p0 vq Opq Oaq Ouq Eq' Oq' c sq Hq Dq (bV (cC (dc + 15) 818 [eR (.ref r)] c) kC) (bI (cT (dt + 3) 46 [eR (.ref 0)] s) fun v h => if v = 0 then some (.inl (some (eI z)), h) else kT h) := by
  rcases P_part dc dt hR with ⟨a9, c9, s9, k9, pl9, w1, w2, w3, w4, w5, w6, w7, w8⟩ | ⟨e1, e2, hR1, hST1, hc1⟩
  · left
    rw [w1, w2, b_Vx, b_I, if_pos rfl]
    exact ⟨a9, c9, z, s9, k9, pl9, rfl, rfl, w3, w4, w5, w6, by omega, by omega⟩
  · rw [e1, b_V, e2, b_I, if_neg (by decide)]
    exact hgo hR1 hST1 hc1
theorem B_within (dc dt : Nat) {u lv H D : Nat} {kR : Value → cS → cRes} (hz : (cLs c0 (r + 8)).length = cnt s0 35) (hB : BS χ n t r f0 vo0 Op Oa (fun k => Ou k ∨ k = u) E X O c0 s0 N K L p f vo c s) (hsub : SP χ n t r Oa (fun k => Ou k ∨ k = u) O lv H D (dc + 30) 829 (dt + 30) 57) (hlv : cnt s0 63 = lv)
    (hu : u < cnt s 35) (h40 : tA s 40 u = Int32.ofNat (cnt s0 64)) (hwu : cnt s0 64 < u) (h37 : ca s 37 u = ca s 37 (cnt s0 64)) (hnu : ¬ Ou u) (h44 : ca s 44 u = 0) (h42 : tA s 36 u = 3 → tA s 42 u ≠ -1) (hu0 : cnt s0 35 ≤ u) (hOuw : Ou (cnt s0 64)) (hOu3 : ∀ k, Ou k → k < cnt s0 35) (hOp0 : ∀ y, Op y → Ou (ca s0 67 y) ∧ y < cnt s0 65) (hvis : ∀ i, i < cnt s 56 → ca s 51 (ca s 57 i) ≠ u) (hH : H ≤ 149) (hD : D ≤ 24) (hF : FH kT)
    (hgo : ∀ a c' s' p' f' vo', BS χ n t r f0 vo0 Op Oa Ou E X O c0 s0 N K L p' f' vo' c' s' → p ≤ f' → f ≤ f' → cNx c' + 300 * (n - f') ≤ cNx c + 300 * (n - f) → cSl c' + 2000 * (n - f') ≤ cSl c + 2000 * (n - f) → KC r c c' → KT s s' → (∀ z, z ∈ [66, 67, 68, 69] → tA s' z N = tA s z N) → cR c' 1611 (lid c (r + 8) u) = .ref a → 1 ≤ H → PX χ n t r f0 p0 vq Opq Oaq Ouq Eq' Oq' c0 sq Hq Dq (kR (.ref a) c') (kT s')) :
    PX χ n t r f0 p0 vq Opq Oaq Ouq Eq' Oq' c0 sq Hq Dq (bR (cC (dc + 31) 828 [eR (.ref r), eR (.ref (lid c (r + 8) u))] c) kR) (bV (cT (dt + 31) 59 [eR (.ref 0), eI (Int32.ofNat u)] s) kT) := by
  have hR := hB.1
  have hS := hR.2.2.2.1.1
  have hfi := hR.2.1
  have hI := hR.2.2.2.1.2.2.2.2.2.2.2.1
  have hU := hR.2.2.2.1.2.2.2.2.2.1
  have h60 := hU.1.2
  have h64 : cnt s 64 = cnt s0 64 := hB.2.2.2.2.2.1.2.2.2.2
  have h803 := hI.1.2.2
  have e64 := hI.1.1.1
  rw [h64] at h803 e64
  obtain ⟨hR1, hKC1, hKT1, c64⟩ := P_enter hR h64 hu h40 hwu h37 (Or.inr rfl) h44
  have hcu : cCl c (lid c (r + 8) u) = 16 := (RUt_cap hU hu).2.2.2
  have hcw : cCl c (lid c (r + 8) (cnt s0 64)) = 16 := (RUt_cap hU (show cnt s0 64 < cnt s 35 by omega)).2.2.2
  have h1603 : cR c 1603 (lid c (r + 8) (cnt s0 64)) = cR c 1603 (lid c (r + 8) u) := by
    obtain ⟨_, ⟨_, _, m2⟩, _⟩ := hU.2.2 (cnt s0 64) (by omega)
    obtain ⟨_, ⟨_, _, m4⟩, _⟩ := hU.2.2 u hu
    rw [m2, m4, h37]
  have hlv1 : cnt (tsI s 64 (Int32.ofNat u)) 63 = lv := by
    show cnt s 63 = lv
    rw [hB.2.2.2.2.2.1.2.2.2.1]; exact hlv
  have hX := hsub vo _ _ p f _ _ hlv1 hR1
  have hc1 : cNx c + 300 * (n - f) ≤ cNx c0 + 300 * (n - f0) := hB.2.1.2.2.2.1
  have hc2 : cSl c + 2000 * (n - f) ≤ cSl c0 + 2000 * (n - f0) := hB.2.1.2.2.2.2.1
  rw [kX8_within, r_cck, if_pos hS.1, uX8_within, r_cgR, if_pos hS.1, h803, r_cpR, if_pos ⟨hS.1, rfl⟩, kX7_bodyOf, uX7_bodyOf, t_fine]
  simp only [hfi, decide_true, bi_t, b_I, e10, if_false]
  rw [r_tpI, e64, a_RR, a_VI]
  rcases hX with hb | ⟨a, y, c2, s2, p2, f2, e1, e2, vo2, g, W, hR2, hST, hvo2, y0, y1, hT, h71, hKS, hpf⟩
  · left
    refine pB_step hb hc1 hc2 (fun a c' q => by rw [q]; rfl) (fun q s' q1 q2 => ?_)
    obtain ⟨q', s'', g1, g2, g3⟩ := hF (tsI (tsA s' 41 u q) 64 (Int32.ofNat (cnt s0 64))) q2
    refine ⟨q', s'', ?_, g2, g3⟩
    rw [q1, b_I, qs_41 (by omega), r_tpI, b_V]
    exact g1
  · have hlid : ∀ k, k < cnt s 35 → lid c2 (r + 8) k = lid c (r + 8) k := fun k hk => by
      rw [hST.1.2.2.2.2.2.2.2.2 k (by rw [RP_len hR1]; exact hk)]; rfl
    have hcu2 : cCl c2 (lid c (r + 8) u) = 16 := kc_cl hST.1 hcu (by decide)
    have hS2 := hR2.2.2.2.1.1
    have e64' : cnt s2 64 = u := hKS.2.2.2.2.trans c64
    have h35 : cnt s 35 ≤ cnt s2 35 := hST.2.1.1 35 (by simp)
    have h50 : cnt s 50 ≤ cnt s2 50 := hST.2.1.1 50 (by simp)
    have k40 : tA s2 40 u = Int32.ofNat (cnt s0 64) := by rw [(hST.2.1.2.1 u hu).2.2.1]; exact h40
    have h1603' : cR c2 1603 (lid c2 (r + 8) (cnt s0 64)) = cR c2 1603 (lid c2 (r + 8) u) := by
      rw [hlid _ (by omega), hlid _ hu, kc_R hST.1 (k := 16) hcw (by decide) (by decide), kc_R hST.1 (k := 16) hcu (by decide) (by decide)]
      exact h1603
    have hOpw : ∀ y, (Op y ∨ y = N) → Ou (ca s2 67 y) := fun y' hy' => by
      have hN1 : N < cnt s 65 := hB.2.2.2.2.1
      rcases hy' with q | q
      · obtain ⟨z1, z2⟩ := hOp0 y' q
        have z3 : y' < cnt s 65 := Nat.lt_of_lt_of_le z2 (hB.2.1.2.1.1 65 (by simp))
        rw [ca_eq (hST.2.2.1 y' z3 67 (by simp))]
        show Ou (ca s 67 y')
        rw [ca_eq (hB.2.1.2.2.1 y' z2 67 (by simp))]
        exact z1
      · rw [q, ca_eq (hST.2.2.1 N hN1 67 (by simp))]
        show Ou (ca s 67 N)
        rw [ca_of hB.2.2.2.2.2.2.2.1 (by omega)]
        exact hOuw
    have hvis2 : ∀ i, i < cnt s2 56 → ca s2 51 (ca s2 57 i) ≠ u := fun i hi => by
      have hi2 : i < cnt s 56 := by rw [hKS.2.1] at hi; exact hi
      obtain ⟨_, g2, _⟩ := hI.2.2.1.2.2 i hi2
      rw [ca_eq (hKS.2.2.1 i hi2)]
      show ca s2 51 (ca s 57 i) ≠ u
      rw [ca_eq (hST.2.1.2.2.1 _ g2).1]
      exact hvis i hi2
    have h900 := hR2.2.2.2.1.2.1.2.2.2.2.1.2
    have hT' : TR g (fun q => cnt s 65 ≤ q ∧ q < cnt s2 65 ∧ q ≠ y) r c2 s2 u H D a y W := by
      have := hT
      rw [c64] at this
      exact this
    obtain ⟨hR3, hKC3, hKT3, c643⟩ := P_leave hR2 e64' k40 hwu (fun k q => q) hnu hOuw (fun k q => by have := hOu3 k q; have := hB.2.1.2.1.1 35 (by simp); omega) hOpw hvis2 h1603' (by omega) hH hD (fun q => by
      obtain ⟨k36, k42, _⟩ := hST.2.1.2.1 u hu
      rw [k36] at q
      have := h42 q
      rw [k42 this]; exact this) hT'
    rw [hlid _ hu, hlid _ (show cnt s0 64 < cnt s 35 by omega)] at hR3 hKC3
    rw [e1, e2, b_R, b_I, r_cpR, if_pos ⟨hcu2, rfl⟩, qs_41 (by omega), r_tpI, b_V]
    have hcl3 : cCl (csR c2 1611 (lid c (r + 8) u) (.ref a)) r = 8 := hS2.1
    rw [r_cpR, if_pos ⟨hcl3, rfl⟩]
    have hcl4 : cCl (csR (csR c2 1611 (lid c (r + 8) u) (.ref a)) 803 r (.ref (lid c (r + 8) (cnt s0 64)))) (lid c (r + 8) u) = 16 := hcu2
    have hg : cR (csR (csR c2 1611 (lid c (r + 8) u) (.ref a)) 803 r (.ref (lid c (r + 8) (cnt s0 64)))) 1611 (lid c (r + 8) u) = .ref a := by simp [gC]
    rw [r_cgR, if_pos hcl4, hg, b_R]
    have hnx : cNx (csR (csR c2 1611 (lid c (r + 8) u) (.ref a)) 803 r (.ref (lid c (r + 8) (cnt s0 64)))) = cNx c2 := rfl
    have hsl : cSl (csR (csR c2 1611 (lid c (r + 8) u) (.ref a)) 803 r (.ref (lid c (r + 8) (cnt s0 64)))) = cSl c2 := rfl
    have hraw : ∀ b, raw c0 b → raw (csR (csR c2 1611 (lid c (r + 8) u) (.ref a)) 803 r (.ref (lid c (r + 8) (cnt s0 64)))) b := raw_W (raw_W (fun b q => hST.2.2.2.2.2.2 b (raw_W hB.2.1.2.2.2.2.2.2 (by decide) b q)))
    have hl12 : (cLs c (r + 8)).length ≤ (cLs c2 (r + 8)).length := by rw [RP_len hR, RP_len hR2]; exact h35
    have hKC' := KC_trans hl12 (KC_trans (show (cLs c (r + 8)).length ≤ (cLs (csR c 803 r (.ref (lid c (r + 8) u))) (r + 8)).length from Nat.le_refl _) hKC1 hST.1) hKC3
    have hKT' := KT_trans hKT1 (KT_trans hST.2.1 hKT3)
    have hf2 : f ≤ f2 := hST.2.2.2.2.2.1
    have hx1 : cNx c2 + 300 * (n - f2) ≤ cNx c + 300 * (n - f) := hST.2.2.2.1
    have hx2 : cSl c2 + 2000 * (n - f2) ≤ cSl c + 2000 * (n - f) := hST.2.2.2.2.1
    have hth3 : TH [64] [] [41] [] s2 (tsI (tsA s2 41 u (Int32.ofNat y)) 64 (Int32.ofNat (cnt s0 64))) := TH_I (by simp) (TH_A (by simp) (TH_refl _ _ _ _ s2))
    generalize csR (csR c2 1611 (lid c (r + 8) u) (.ref a)) 803 r (.ref (lid c (r + 8) (cnt s0 64))) = c3 at *
    generalize tsI (tsA s2 41 u (Int32.ofNat y)) 64 (Int32.ofNat (cnt s0 64)) = s3 at *
    have ho : ∀ y, y < cnt s 65 → ∀ z, z ∈ [66, 67, 68, 69, 70, 71, 72] → tA s3 z y = tA s z y := fun y' hy' z hz' => by
      rw [th_A hth3 (by simp only [List.mem_cons, List.not_mem_nil, or_false] at hz' ⊢; omega), hST.2.2.1 y' hy' z hz']; rfl
    obtain ⟨k1, k2, k3, k4, k5⟩ := hB.2.2.2.2.2.1
    obtain ⟨m1, m2, m3, m4, m5⟩ := hKS
    have hU2 := hR2.2.2.2.1.2.2.2.2.2.1
    have hK1 : K1 s0 s3 := by
      refine ⟨by rw [th_cnt hth3 (by decide), m1.1]; exact k1.1, by rw [th_cnt hth3 (by decide)]; exact Nat.le_trans k1.2.1 h35, fun k hk hn => ?_⟩
      obtain ⟨w1, w2⟩ := k1.2.2 k hk hn
      have hk35 : k < cnt s 35 := Nat.lt_of_lt_of_le hk k1.2.1
      obtain ⟨w3, w4⟩ := m1.2.2 k hk35 (fun q => by
        rw [c64, anc_A (s := s) (s' := tsI s 64 (Int32.ofNat u)) rfl] at q
        exact w2 (by rw [h64]; exact anc_out hU hu h40 hwu (by omega) q))
      refine ⟨by rw [th_ca hth3 (by decide), w3]; exact w1, fun q => w4 ?_⟩
      rw [c643, anc_fr hth3 (by decide)] at q
      rw [e64']
      exact anc_in hU2 (by omega) k40 hwu q
    have hB3 := BS_go hz hB hR3 hKC' hKT' (fun v hv => hvo2 v hv) (fun y' hy' z hz' _ => ho y' hy' z hz') (TH_refl _ _ _ _ s0) ⟨hK1, by rw [th_cnt hth3 (by decide), m2]; exact k2, fun i hi => by rw [th_A hth3 (by decide), m3 i (by show i < cnt s 56; omega)]; exact k3 i hi, by rw [th_cnt hth3 (by decide), m4]; exact k4, c643⟩ (by omega) (by omega) (by have := hB.2.1.2.2.2.2.2.1; omega) hraw
    exact hgo a c3 s3 p2 f2 vo2 hB3 hpf hf2 (by omega) (by omega) hKC' hKT' (fun z hz' => ho N hB.2.2.2.2.1 z (by simp only [List.mem_cons, List.not_mem_nil, or_false] at hz' ⊢; omega)) hg (TR_H _ _ _ _ _ _ _ hT)
/-- a part of its own frame is set up -/
def iuC (c : cS) (a : Nat) (v1 v2 : Value) : cS := csR (csR c 2400 a v1) 2401 a v2
theorem c_iu (d : Nat) {a : Nat} {v1 v2 : Value} (ha : cCl c a = 24) (h1 : misR v1 = true) (h2 : misR v2 = true) : cC (d + 11) 2400 [eR (.ref a), eR v1, eR v2] c = some (.inl none, iuC c a v1 v2) := by
  rw [kX24_init, r_cck, if_pos ha, uX24_init, kX18_init, uX18_init]
  simp only [pP, ha, h1, h2, rC, bB, Nat.reduceDiv, Nat.reduceLeDiff, Nat.reduceLT,  eq_self, if_true, if_false, true_and, and_true, false_and, and_false, or_true, true_or, or_false, false_or, reduceIte, reduceCtorEq, Nat.reduceEqDiff, not_true_eq_false, not_false_eq_true, r_misN, r_misR, gC]
  rfl
/-- a node with a unit is closed -/
theorem P_close10 {u : Nat} (h : RP χ n t r p f vo (fun y => Op y ∨ y = N) Oa Ou E O c s) (hk : ca s 66 N = 10) (h68 : tA s 68 N = Int32.ofNat u) (hu : u < cnt s 35) (h40 : tA s 40 u = Int32.ofNat (ca s 67 N)) (hin : tA s 36 u = 3 → ∃ K i, lsr c (lid c (r + 8) (ca s 67 N) + 5) K 16 ∧ i < K ∧ lid c (lid c (r + 8) (ca s 67 N) + 5) i = lid c (r + 8) u) : RP χ n t r p f vo Op Oa Ou E O c s := by
  obtain ⟨hL, hfi, hn, hQ, hN, hOu, hOp, hOa, hOu2⟩ := h
  obtain ⟨hS, hC, hG, hLm, hM, hU, hV, hI, ⟨f1, f2⟩, hA, hB⟩ := hQ
  have h60 := hU.1.2
  have cl : ∀ x j, ca s 66 x = j → j ≠ 10 → ¬ Op x → ¬ (Op x ∨ x = N) := by
    intro x j e q ho z
    rcases z with z | z
    · exact ho z
    · rw [z] at e; omega
  refine ⟨hL, hfi, hn, ⟨hS, hC, hG, hLm, hM, hU, hV, hI, ⟨f1, fun u' hu' => ?_⟩, hA, hB⟩, hN, hOu, fun y hy => hOp y (Or.inl hy), hOa, hOu2⟩
  obtain ⟨e1, e2, e3, e4, e5, e6, e7, ⟨b0, b1, b2, b3, e8, e8'⟩, e9, ⟨K, e10, ⟨X, hX, e11⟩, e12⟩, K2, e13, ⟨X2, hX2, e14⟩, e15⟩ := f2 u' hu'
  refine ⟨e1, e2, fun x hx ho q z => e3 x hx (cl x _ rfl (by omega) ho) q z, e4, fun x hx ho q z => e5 x hx (cl x _ z (by omega) ho) q z, e6, fun x hx ho q z => e7 x hx (cl x _ z (by omega) ho) q z, ⟨b0, b1, b2, b3, e8, fun m hm => ⟨fun q => by obtain ⟨x, x1, x2, x3⟩ := (e8' m hm).1 q; exact ⟨x, x1, fun w => x2 (Or.inl w), x3⟩, fun x hx ho q z => (e8' m hm).2 x hx (cl x _ z (by omega) ho) q z⟩⟩, fun x hx ho z => e9 x hx (cl x _ z (by omega) ho) z, ⟨K, e10, ⟨X, hX, fun i hi => ?_⟩, fun x hx ho q z => e12 x hx (cl x _ z (by omega) ho) q z⟩, K2, e13, ⟨X2, hX2, e14⟩, fun x hx ho q z => ?_⟩
  · obtain ⟨x1, x2, x3⟩ := e11 i hi
    exact ⟨x1, fun q => x2 (Or.inl q), x3⟩
  · by_cases w : x = N
    · rw [w] at q ⊢
      have c68 := ca_of h68 (by omega)
      have hx67 := (f1 N (hOp N (Or.inr rfl)).2).2.1
      refine ⟨aok_of h68 (by omega) (by omega), by rw [c68]; exact hu, by rw [c68, ca_of h40 (by omega)]; exact q, by rw [c68, h40, ne_eq, ofNat_ne_m1 (by omega)]; exact id, fun z3 => ?_⟩
      rw [c68] at z3 ⊢
      obtain ⟨K', i, z4, z5, z6⟩ := hin z3
      rw [q] at z4 z6
      exact ⟨i, by have := z4.1; rw [e13.1] at this; omega, z6⟩
    · exact e15 x hx (by rintro (z' | z'); exact ho z'; exact w z') q z
end
