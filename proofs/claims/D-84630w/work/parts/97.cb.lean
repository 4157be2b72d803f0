set_option maxRecDepth 100000
set_option maxHeartbeats 4000000
/-! D47: steps with what comes behind them -/
/-- what the reference goes on with does nothing more behind a fault -/
def FH (k : tS → tR) : Prop := ∀ s, tI s 6 ≠ 0 → ∃ q s', k s = some (.inl (some (eI q)), s') ∧ tI s' 6 = tI s 6 ∧ tI s' 7 = tI s 7
theorem th_sym {YI YL YA YB : List Nat} {s s' : tS} (h : TH YI YL YA YB s s') : TH YI YL YA YB s' s := by
  obtain ⟨h1, h2, h3, h4⟩ := h
  exact ⟨fun x hx => (h1 x hx).symm, fun x hx => (h2 x hx).symm, fun x j hx => (h3 x j hx).symm, fun x j hx => (h4 x j hx).symm⟩
theorem TH_trans {YI YL YA YB : List Nat} {a b c : tS} (h : TH YI YL YA YB a b) (k : TH YI YL YA YB b c) : TH YI YL YA YB a c := by
  obtain ⟨h1, h2, h3, h4⟩ := h
  obtain ⟨k1, k2, k3, k4⟩ := k
  exact ⟨fun x hx => (k1 x hx).trans (h1 x hx), fun x hx => (k2 x hx).trans (h2 x hx), fun x j hx => (k3 x j hx).trans (h3 x j hx), fun x j hx => (k4 x j hx).trans (h4 x j hx)⟩
theorem TH_wk {YI YL YA YB YI' YL' YA' YB' : List Nat} {s s' : tS} (d : (YI.all (fun x => YI'.contains x) && YL.all (fun x => YL'.contains x) && YA.all (fun x => YA'.contains x) && YB.all (fun x => YB'.contains x)) = true) (h : TH YI YL YA YB s s') : TH YI' YL' YA' YB' s s' := by
  simp only [Bool.and_eq_true, List.all_eq_true, List.contains_iff_mem] at d
  obtain ⟨⟨⟨d1, d2⟩, d3⟩, d4⟩ := d
  obtain ⟨h1, h2, h3, h4⟩ := h
  exact ⟨fun x hx => h1 x (fun z => hx (d1 x z)), fun x hx => h2 x (fun z => hx (d2 x z)), fun x j hx => h3 x j (fun z => hx (d3 x z)), fun x j hx => h4 x j (fun z => hx (d4 x z))⟩
section
variable {χ : Nat → Int32} {n t r : Nat} {Oa Ou : Nat → Prop} {O : Nat}
theorem j_lx {f f1 : Nat} {c c1 : cS} {rc : cRes} {rt : tR} {kC : cS → cRes} {kT : tS → tR} (h : lxBad rc rt c1) (h1 : cNx c1 + 300 * (n - f1) ≤ cNx c + 300 * (n - f)) (h2 : cSl c1 + 2000 * (n - f1) ≤ cSl c + 2000 * (n - f)) (hF : FH kT) : pB n f c (bV rc kC) (bV rt kT) :=
  pB_lx h h1 h2 (fun a c' q => by rw [q]; rfl) (fun s' q1 q2 => by
    obtain ⟨q, s'', e1, e2, e3⟩ := hF s' q2
    exact ⟨q, s'', by rw [q1, b_V, e1], e2, e3⟩)
theorem j_px {f f1 : Nat} {c c1 : cS} {rc : cRes} {rt : tR} {kC : Value → cS → cRes} {kT : Int32 → tS → tR} (h : pB n f1 c1 rc rt) (h1 : cNx c1 + 300 * (n - f1) ≤ cNx c + 300 * (n - f)) (h2 : cSl c1 + 2000 * (n - f1) ≤ cSl c + 2000 * (n - f)) (hF : ∀ x, FH (kT x)) : pB n f c (bR rc kC) (bI rt kT) :=
  pB_step h h1 h2 (fun a c' q => by rw [q]; rfl) (fun x s' q1 q2 => by
    obtain ⟨q, s'', e1, e2, e3⟩ := hF x s' q2
    exact ⟨q, s'', by rw [q1, b_I, e1], e2, e3⟩)
/-- a node under way goes on by any step that keeps it -/
theorem BS_go {f0 p f p' f' : Nat} {vo0 vo vo' : Nat → Nat} {Op : Nat → Prop} {Oa' Ou' : Nat → Prop} {O' E X X' N K : Nat} {L : List cE} {c0 c c' : cS} {s0 s0' s s' : tS} (hz : (cLs c0 (r + 8)).length = cnt s0 35) (h : BS χ n t r f0 vo0 Op Oa Ou E X O c0 s0 N K L p f vo c s)
    (hR' : RP χ n t r p' f' vo' (fun y => Op y ∨ y = N) Oa' Ou' (E + X' + sW L) O' c' s') (hKC : KC r c c') (hKT : KT s s') (hvo : ∀ v, v < cnt s 50 → vo' v = vo v)
    (ho : ∀ y, y < cnt s 65 → ∀ z, z ∈ [66, 67, 68, 69, 70, 71, 72] → (y = N → z ∉ [68, 69]) → tA s' z y = tA s z y)
    (hs0 : TH [56] [] [57] [] s0 s0') (hKS : KS s0' s') (h1 : cNx c' + 300 * (n - f') ≤ cNx c0 + 300 * (n - f0)) (h2 : cSl c' + 2000 * (n - f') ≤ cSl c0 + 2000 * (n - f0)) (hff : f0 ≤ f') (hraw : ∀ b, raw c0 b → raw c' b) :
    BS χ n t r f0 vo0 Op Oa' Ou' E X' O' c0 s0' N K L p' f' vo' c' s' := by
  obtain ⟨hR, hST, hvo0, hN0, hN1, hKS0, k66, k67, k71, hl, hnd, g, hg⟩ := h
  have h65 : cnt s 65 ≤ cnt s' 65 := hKT.1 65 (by simp)
  have e65 : cnt s0' 65 = cnt s0 65 := th_cnt hs0 (by simp)
  have e50 : cnt s0' 50 = cnt s0 50 := th_cnt hs0 (by simp)
  have e64 : cnt s0' 64 = cnt s0 64 := th_cnt hs0 (by simp)
  have hu0 : cnt s0 64 < cnt s 35 := by
    rw [← hKS0.2.2.2.2]
    exact hR.2.2.2.1.2.2.2.2.2.2.2.1.1.2.1
  have hys : ∀ q, q ∈ L.map cEy → q < cnt s 65 ∧ q ≠ N := fun q hq => by
    obtain ⟨e, he, rfl⟩ := List.mem_map.1 hq
    obtain ⟨_, e2, e3, _⟩ := hg e he
    exact ⟨e2, e3⟩
  have hlk : lnk s' (L.map cEy) (tA s' 70 N) := by
    rw [ho N hN1 70 (by simp) (by simp)]
    exact lnk_cg _ _ (fun y hy => ho y (hys y hy).1 71 (by simp) (fun q => absurd q (hys y hy).2)) hl
  refine ⟨hR', ⟨KC_trans (ST_lz hz hR hST) hST.1 hKC, KT_trans (KT_of (th_sym hs0) (by decide)) (KT_trans hST.2.1 hKT), fun y hy z hz' => ?_, h1, h2, hff, hraw⟩, fun v hv => ?_, by rw [e65]; exact hN0, by omega, hKS, ?_, ?_, ?_, hlk, hnd, g, fun e he => ?_⟩
  · rw [e65] at hy
    have hy2 : y < cnt s 65 := Nat.lt_of_lt_of_le hy (hST.2.1.1 65 (by simp))
    rw [ho y hy2 z hz' (fun q => absurd q (by omega)), hST.2.2.1 y hy z hz', th_A hs0 (by simp only [List.mem_cons, List.not_mem_nil, or_false] at hz' ⊢; omega)]
  · rw [e50] at hv
    rw [hvo v (Nat.lt_of_lt_of_le hv (hST.2.1.1 50 (by simp))), hvo0 v hv]
  · rw [ho N hN1 66 (by simp) (by simp)]; exact k66
  · rw [ho N hN1 67 (by simp) (by simp), e64]; exact k67
  · rw [ho N hN1 71 (by simp) (by simp)]; exact k71
  · obtain ⟨w1, w2, w3, w4, w5⟩ := hg e he
    rw [e65, e64]
    refine ⟨w1, by omega, w3, by rw [ho _ w2 72 (by simp) (fun q => absurd q w3)]; exact w4, ?_⟩
    have w6 := TR_QQ (Q' := fun q => (cnt s0 65 ≤ q ∧ q ≠ N ∧ q ∉ L.map cEy) ∧ q < cnt s 65) (fun q hq b1 _ => ⟨hq, b1⟩) _ _ _ _ _ _ w5
    have w7 := TR_mono hKC hKT (RP_len hR) (fun v hv => (hR.2.2.2.1.2.2.2.2.2.2.1.2.1 v hv).2.2.1) (fun q hq z hz' => ho q hq.2 z hz' (fun w => absurd w hq.1.2.1)) hu0 g _ _ _ _ _ (fun z hz' => ho _ w2 z (by simp only [List.mem_cons, List.not_mem_nil, or_false] at hz' ⊢; omega) (fun w => absurd w w3)) w6
    exact TR_Q (fun q hq => hq.1) _ _ _ _ _ _ _ w7
/-- the node is closed: its part was made -/
theorem BS_fin {f0 p0 p f : Nat} {vo0 vo : Nat → Nat} {Op : Nat → Prop} {E X N K H D a g : Nat} {L : List cE} {c0 c c' : cS} {s0 s : tS} (hz : (cLs c0 (r + 8)).length = cnt s0 35) (hp : p0 ≤ f) (h : BS χ n t r f0 vo0 Op Oa Ou E X O c0 s0 N K L p f vo c s) (hRc : RP χ n t r p f vo Op Oa Ou (E + (X + sW L)) O c' s) (hKC : KC r c c')
    (h1 : cNx c' + 300 * (n - f) ≤ cNx c0 + 300 * (n - f0)) (h2 : cSl c' + 2000 * (n - f) ≤ cSl c0 + 2000 * (n - f0)) (hraw : ∀ b, raw c0 b → raw c' b) (hT : TR g (fun q => cnt s0 65 ≤ q ∧ q < cnt s 65 ∧ q ≠ N) r c' s (cnt s0 64) H D a N (X + sW L)) : PXo χ n t r f0 p0 vo0 Op Oa Ou E O c0 s0 H D a N c' s p f := by
  obtain ⟨hR, hST, hvo0, hN0, hN1, hKS0, k66, k67, k71, hl, hnd, hg⟩ := h
  exact ⟨vo, g, X + sW L, hRc, ⟨KC_trans (ST_lz hz hR hST) hST.1 hKC, hST.2.1, hST.2.2.1, h1, h2, hST.2.2.2.2.2.1, hraw⟩, hvo0, hN0, hN1, hT, k71, hKS0, hp⟩
/-- the children's trees at a state behind -/
theorem BS_kids {f0 p f : Nat} {vo0 vo : Nat → Nat} {Op : Nat → Prop} {E X N K : Nat} {L : List cE} {c0 c c' : cS} {s0 s : tS} (h : BS χ n t r f0 vo0 Op Oa Ou E X O c0 s0 N K L p f vo c s) (hKC : KC r c c') :
    ∃ g, ∀ e, e ∈ L → (cnt s0 65 ≤ cEy e ∧ cEy e < cnt s 65 ∧ cEy e ≠ N) ∧ tA s 72 (cEy e) = Int32.ofNat N ∧ TR g (fun q => cnt s0 65 ≤ q ∧ q < cnt s 65 ∧ q ≠ N) r c' s (cnt s0 64) e.2.2.1 e.2.2.2.1 e.1 (cEy e) (cEW e) := by
  obtain ⟨g, hg⟩ := BS_Q h
  obtain ⟨hR, hST, hvo0, hN0, hN1, hKS0, _⟩ := h
  have hu0 : cnt s0 64 < cnt s 35 := by
    rw [← hKS0.2.2.2.2]
    exact hR.2.2.2.1.2.2.2.2.2.2.2.1.1.2.1
  refine ⟨g, fun e he => ?_⟩
  obtain ⟨w1, w2, w3⟩ := hg e he
  exact ⟨w1, w2, TR_mono hKC (KT_refl s) (RP_len hR) (fun v hv => (hR.2.2.2.1.2.2.2.2.2.2.1.2.1 v hv).2.2.1) (fun _ _ _ _ => rfl) hu0 g _ _ _ _ _ (fun _ _ => rfl) w3⟩
section
variable {f0 p0 : Nat} {vo0 : Nat → Nat} {Op : Nat → Prop} {E X N K p f : Nat} {L : List cE} {c0 c : cS} {s0 s : tS} {vo : Nat → Nat} {vq : Nat → Nat} {Opq Oaq Ouq : Nat → Prop} {Eq' Oq' : Nat} {sq : tS} {Hq Dq : Nat} {kC : cS → cRes} {kT : tS → tR}
/-- over a word, at a node under way -/
theorem B_next (dc dt : Nat) (hz : (cLs c0 (r + 8)).length = cnt s0 35) (hB : BS χ n t r f0 vo0 Op Oa Ou E X O c0 s0 N K L p f vo c s) (hF : FH kT)
    (hgo : ∀ c' s' p' f', BS χ n t r f0 vo0 Op Oa Ou E X O c0 s0 N K L p' f' vo c' s' → WK χ n t r p vo (fun y => Op y ∨ y = N) Oa Ou (E + X + sW L) O c s c' s' p' f' → p ≤ f' → cNx c' + 300 * (n - f') ≤ cNx c + 300 * (n - f) → cSl c' + 2000 * (n - f') ≤ cSl c + 2000 * (n - f) → f ≤ f' → (tI s 8 ≠ 0 → f < f' ∧ cNx c' + 300 * (n - f') + 298 ≤ cNx c + 300 * (n - f) ∧ cSl c' + 2000 * (n - f') + 1992 ≤ cSl c + 2000 * (n - f)) → PX χ n t r f0 p0 vq Opq Oaq Ouq Eq' Oq' c0 sq Hq Dq (kC c') (kT s')) :
    PX χ n t r f0 p0 vq Opq Oaq Ouq Eq' Oq' c0 sq Hq Dq (bV (cC (dc + 20) 1001 [eR (.ref (r + 16))] c) kC) (bV (cT (dt + 20) 6 [eR (.ref 0)] s) kT) := by
  rcases P_next dc dt hB.1 with hb | ⟨c2, s3, p3, f3, e5, e6, hW⟩
  · left
    exact j_lx hb (f1 := f) (by have := hB.2.1.2.2.2.1; omega) (by have := hB.2.1.2.2.2.2.1; omega) hF
  · obtain ⟨hB3, hp3⟩ := BS_tok hz hB hW
    obtain ⟨hS, hS2⟩ := WK_ST hB.1 hW
    rw [e5, e6, b_V, b_V]
    exact hgo c2 s3 p3 f3 hB3 hW hp3 hS.2.2.2.1 hS.2.2.2.2.1 hS.2.2.2.2.2.1 hS2
/-- a sign -/
theorem B_sign (dc dt : Nat) {x y : Int32} (hz : (cLs c0 (r + 8)).length = cnt s0 35) (hB : BS χ n t r f0 vo0 Op Oa Ou E X O c0 s0 N K L p f vo c s) (hxy : (cI c 1004 (r + 16) = 5 ∧ cI c 1006 (r + 16) = x) = (tI s 8 = 5 ∧ tI s 11 = y)) (hF : FH kT)
    (hgo : ∀ c' s' p' f', BS χ n t r f0 vo0 Op Oa Ou E X O c0 s0 N K L p' f' vo c' s' → WK χ n t r p vo (fun y => Op y ∨ y = N) Oa Ou (E + X + sW L) O c s c' s' p' f' → p ≤ f' → f < f' → cNx c' + 300 * (n - f') + 298 ≤ cNx c + 300 * (n - f) → cSl c' + 2000 * (n - f') + 1992 ≤ cSl c + 2000 * (n - f) → PX χ n t r f0 p0 vq Opq Oaq Ouq Eq' Oq' c0 sq Hq Dq (kC c') (kT s')) :
    PX χ n t r f0 p0 vq Opq Oaq Ouq Eq' Oq' c0 sq Hq Dq (bV (cC (dc + 22) 1012 [eR (.ref (r + 16)), eI x] c) kC) (bV (cT (dt + 21) 26 [eR (.ref 0), eI y] s) kT) := by
  rcases P_sign dc dt hB.1 hxy with hb | ⟨hq, c2, s3, p3, f3, e5, e6, hW⟩
  · left
    exact j_lx hb (f1 := f) (by have := hB.2.1.2.2.2.1; omega) (by have := hB.2.1.2.2.2.2.1; omega) hF
  · obtain ⟨hB3, hp3⟩ := BS_tok hz hB hW
    obtain ⟨hS, hS2⟩ := WK_ST hB.1 hW
    obtain ⟨q1, q2, q3⟩ := hS2 (by rw [hq.1]; decide)
    rw [e5, e6, b_V, b_V]
    exact hgo c2 s3 p3 f3 hB3 hW hp3 q1 q2 q3
/-- a keyword -/
theorem B_key (dc dt : Nat) (x : Int32) (hz : (cLs c0 (r + 8)).length = cnt s0 35) (hB : BS χ n t r f0 vo0 Op Oa Ou E X O c0 s0 N K L p f vo c s) (hF : FH kT)
    (hgo : ∀ c' s' p' f', BS χ n t r f0 vo0 Op Oa Ou E X O c0 s0 N K L p' f' vo c' s' → WK χ n t r p vo (fun y => Op y ∨ y = N) Oa Ou (E + X + sW L) O c s c' s' p' f' → p ≤ f' → tI s 8 = 2 ∧ tI s 11 = x → f < f' → cNx c' + 300 * (n - f') + 298 ≤ cNx c + 300 * (n - f) → cSl c' + 2000 * (n - f') + 1992 ≤ cSl c + 2000 * (n - f) → PX χ n t r f0 p0 vq Opq Oaq Ouq Eq' Oq' c0 sq Hq Dq (kC c') (kT s')) :
    PX χ n t r f0 p0 vq Opq Oaq Ouq Eq' Oq' c0 sq Hq Dq (bV (cC (dc + 22) 1016 [eR (.ref (r + 16)), eI x] c) kC) (bV (cT (dt + 21) 31 [eR (.ref 0), eI x] s) kT) := by
  rcases P_key dc dt x hB.1 with hb | ⟨hq, c2, s3, p3, f3, e5, e6, hW⟩
  · left
    exact j_lx hb (f1 := f) (by have := hB.2.1.2.2.2.1; omega) (by have := hB.2.1.2.2.2.2.1; omega) hF
  · obtain ⟨hB3, hp3⟩ := BS_tok hz hB hW
    obtain ⟨hS, hS2⟩ := WK_ST hB.1 hW
    obtain ⟨q1, q2, q3⟩ := hS2 (by rw [hq.1]; decide)
    rw [e5, e6, b_V, b_V]
    exact hgo c2 s3 p3 f3 hB3 hW hp3 hq q1 q2 q3
/-- a child is read and taken in -/
theorem B_kidS (d : Nat) {H D : Nat} {rc : cRes} {rt : tR} {kR : Value → cS → cRes} (hz : (cLs c0 (r + 8)).length = cnt s0 35) (hB : BS χ n t r f0 vo0 Op Oa Ou E X O c0 s0 N K L p f vo c s)
    (hX : PX χ n t r f p vo (fun y => Op y ∨ y = N) Oa Ou (E + X + sW L) O c s H D rc rt) (hF : FH kT)
    (hgo : ∀ a y W vo' c' s' p' f', BS χ n t r f0 vo0 Op Oa Ou E X O c0 s0 N K (L ++ [(a, y, H, D, W)]) p' f' vo' c' s' → p ≤ f' → f ≤ f' → cNx c' + 300 * (n - f') ≤ cNx c + 300 * (n - f) → cSl c' + 2000 * (n - f') ≤ cSl c + 2000 * (n - f) → KC r c c' → KT s s' → (∀ v, v < cnt s 50 → vo' v = vo v) → (∀ b, raw c b → raw c' b) → (∀ z, z ∈ [66, 67, 68, 69] → tA s' z N = tA s z N) → K1 s s' → PX χ n t r f0 p0 vq Opq Oaq Ouq Eq' Oq' c0 sq Hq Dq (kR (.ref a) c') (kT s')) :
    PX χ n t r f0 p0 vq Opq Oaq Ouq Eq' Oq' c0 sq Hq Dq (bR rc kR) (bI rt fun v h => bV (cT (d + 2) 49 [eR (.ref 0), eI (Int32.ofNat N), eI v] h) kT) := by
  rcases hX with hb | ⟨a1, y1, c3, s4, p4, f4, e7, e8, hX1⟩
  · left
    exact j_px hb (by have := hB.2.1.2.2.2.1; omega) (by have := hB.2.1.2.2.2.2.1; omega) (fun x s' q2 => by
      obtain ⟨q, s'', g1, g2, g3⟩ := hF s' q2
      exact ⟨q, s'', by rw [F_gets d _ _ q2, b_V, g1], g2, g3⟩)
  · obtain ⟨W1, vo1, s5, e9, hB4, hp4, hs5, hvo4⟩ := BS_childX d hz hB hX1
    rw [e7, e8, b_R, b_I, e9, b_V]
    obtain ⟨_, _, _, _, hST, _, _, _, _, _, hKS1, _⟩ := hX1
    have hgt := gt_th s4 N y1 (L.map cEy)
    rw [← hs5] at hgt
    exact hgo a1 y1 W1 vo1 c3 s5 p4 f4 hB4 hp4 hST.2.2.2.2.2.1 hST.2.2.2.1 hST.2.2.2.2.1 hST.1 (KT_trans hST.2.1 (KT_of hgt (by decide))) hvo4 hST.2.2.2.2.2.2 (fun z hz' => by
      rw [th_A hgt (by simp only [List.mem_cons, List.not_mem_nil, or_false] at hz' ⊢; omega) N, hST.2.2.1 N hB.2.2.2.2.1 z (by simp only [List.mem_cons, List.not_mem_nil, or_false] at hz' ⊢; omega)]) (K1_trans hKS1.1 (K1_th hgt (by decide)))
theorem B_kid (d : Nat) {H D : Nat} {rc : cRes} {rt : tR} {kR : Value → cS → cRes} (hz : (cLs c0 (r + 8)).length = cnt s0 35) (hB : BS χ n t r f0 vo0 Op Oa Ou E X O c0 s0 N K L p f vo c s)
    (hX : PX χ n t r f p vo (fun y => Op y ∨ y = N) Oa Ou (E + X + sW L) O c s H D rc rt) (hF : FH kT)
    (hgo : ∀ a y W vo' c' s' p' f', BS χ n t r f0 vo0 Op Oa Ou E X O c0 s0 N K (L ++ [(a, y, H, D, W)]) p' f' vo' c' s' → p ≤ f' → f ≤ f' → cNx c' + 300 * (n - f') ≤ cNx c + 300 * (n - f) → cSl c' + 2000 * (n - f') ≤ cSl c + 2000 * (n - f) → KC r c c' → KT s s' → (∀ v, v < cnt s 50 → vo' v = vo v) → (∀ b, raw c b → raw c' b) → (∀ z, z ∈ [66, 67, 68, 69] → tA s' z N = tA s z N) → PX χ n t r f0 p0 vq Opq Oaq Ouq Eq' Oq' c0 sq Hq Dq (kR (.ref a) c') (kT s')) :
    PX χ n t r f0 p0 vq Opq Oaq Ouq Eq' Oq' c0 sq Hq Dq (bR rc kR) (bI rt fun v h => bV (cT (d + 2) 49 [eR (.ref 0), eI (Int32.ofNat N), eI v] h) kT) :=
  B_kidS d hz hB hX hF (fun a y W vo' c' s' p' f' h1 h2 h3 h4 h5 h6 h7 h8 h9 h10 _ => hgo a y W vo' c' s' p' f' h1 h2 h3 h4 h5 h6 h7 h8 h9 h10)
/-- a part is counted, a node begun -/
theorem B_begin (dc dt dt2 : Nat) {K : Nat} {k a b z : Int32} {kN : Int32 → tS → tR} (hK : K ≤ 42) (hk : k = Int32.ofNat K) (hR : RP χ n t r p f vo Op Oa Ou E O c s)
    (hgo : ∀ s', BS χ n t r f vo Op Oa Ou E 60 O c s (cnt s 65) K [] p f vo (ptC c r) s' → tA s' 68 (cnt s 65) = a → tA s' 69 (cnt s 65) = b → TH [62, 65] [] [66, 67, 68, 69, 70, 71, 72] [] s s' → PX χ n t r f p0 vq Opq Oaq Ouq Eq' Oq' c sq Hq Dq (kC (ptC c r)) (kN (Int32.ofNat (cnt s 65)) s')) :
    PX χ n t r f p0 vq Opq Oaq Ouq Eq' Oq' c sq Hq Dq (bV (cC (dc + 15) 818 [eR (.ref r)] c) kC) (bI (cT (dt + 3) 46 [eR (.ref 0)] s) fun v h => if v = 0 then some (.inl (some (eI z)), h) else bI (cT (dt2 + 1) 47 [eR (.ref 0), eI k, eI a, eI b] h) kN) := by
  rcases P_part dc dt hR with ⟨a9, c9, s9, k9, pl9, w1, w2, w3, w4, w5, w6, w7, w8⟩ | ⟨e1, e2, hR1, hST1, hc1⟩
  · left
    rw [w1, w2, b_Vx, b_I, if_pos rfl]
    exact ⟨a9, c9, z, s9, k9, pl9, rfl, rfl, w3, w4, w5, w6, by omega, by omega⟩
  · have hn62 := hR.2.2.2.1.2.1.2.2.2.2.2
    have hn65 : cnt (ptT s) 65 = cnt s 65 := rfl
    obtain ⟨e3, hB, g1, g2⟩ := BS_node dt2 (E := E) (X := 60) (K := K) (RP_len hR) hR1 hST1 (fun _ _ => rfl) (KS_pt _) hK a b (by rw [hc1, hn65]; omega)
    rw [e1, b_V, e2, b_I, if_neg (by decide), hk, e3, b_I]
    exact hgo _ hB g1 g2 (TH_trans (TH_wk (YI := [62]) (YA := []) (by decide) (TH_I (by simp) (TH_refl _ [] _ [] s))) (TH_wk (by decide) (nd_th (ptT s) (Int32.ofNat K) a b)))
end
end
