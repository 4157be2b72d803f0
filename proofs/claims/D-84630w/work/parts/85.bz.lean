set_option maxRecDepth 100000
set_option maxHeartbeats 4000000
/-! D35: a node is begun and closed -/
section
variable {χ : Nat → Int32} {n t r : Nat} {Oa Ou : Nat → Prop} {O : Nat}
theorem BS_node (d : Nat) {f0 p f : Nat} {vo0 vo : Nat → Nat} {Op : Nat → Prop} {E X K : Nat} {c0 c : cS} {s0 s : tS} (hz : (cLs c0 (r + 8)).length = cnt s0 35) (hR : RP χ n t r p f vo Op Oa Ou (E + X) O c s) (hST : ST n r f0 c0 s0 f c s) (hvo : ∀ v, v < cnt s0 50 → vo v = vo0 v) (hKS : KS s0 s) (hK : K ≤ 42) (a b : Int32) (hb : cnt s 65 + 1 ≤ 2 * cnt s 62) :
    cT (d + 1) 47 [eR (.ref 0), eI (Int32.ofNat K), eI a, eI b] s = some (.inl (some (eI (Int32.ofNat (cnt s 65)))), ndT s (Int32.ofNat K) a b) ∧ BS χ n t r f0 vo0 Op Oa Ou E X O c0 s0 (cnt s 65) K [] p f vo c (ndT s (Int32.ofNat K) a b) ∧ tA (ndT s (Int32.ofNat K) a b) 68 (cnt s 65) = a ∧ tA (ndT s (Int32.ofNat K) a b) 69 (cnt s 65) = b := by
  obtain ⟨e1, hR1, hST1⟩ := P_node d K hK a b hR hb
  obtain ⟨n1, n2, n3, n4, n5, n6, n7⟩ := nd_new s (Int32.ofNat K) a b
  have hth := nd_th s (Int32.ofNat K) a b
  obtain ⟨q1, q2, q3, q4, q5⟩ := hR.2.2.2.1.2.1
  obtain ⟨u1, u2⟩ := nd_cnt (k := Int32.ofNat K) (a := a) (b := b) q5.1
  have hcu := hR.2.2.2.1.2.2.2.2.2.2.2.1.1
  have h64 : cnt s 64 = cnt s0 64 := hKS.2.2.2.2
  refine ⟨e1, ⟨hR1, ST_trans (ST_lz hz hR hST) hST hST1, hvo, hST.2.1.1 65 (by simp), by omega, KS_trans hKS (KS_th hth (by decide)), n1, ?_, n6, n5, List.nodup_nil, 0, fun e he => by cases he⟩, n3, n4⟩
  rw [n2, ← h64]
  exact hcu.1.1
/-- the children with what lies below the node -/
theorem BS_Q {f0 p f : Nat} {vo0 vo : Nat → Nat} {Op : Nat → Prop} {E X N K : Nat} {L : List cE} {c0 c : cS} {s0 s : tS} (h : BS χ n t r f0 vo0 Op Oa Ou E X O c0 s0 N K L p f vo c s) :
    ∃ g, ∀ e, e ∈ L → (cnt s0 65 ≤ cEy e ∧ cEy e < cnt s 65 ∧ cEy e ≠ N) ∧ tA s 72 (cEy e) = Int32.ofNat N ∧ TR g (fun q => cnt s0 65 ≤ q ∧ q < cnt s 65 ∧ q ≠ N) r c s (cnt s0 64) e.2.2.1 e.2.2.2.1 e.1 (cEy e) (cEW e) := by
  obtain ⟨hR, hST, hvo, hN0, hN1, hKS, k66, k67, k71, hl, hnd, g, hg⟩ := h
  refine ⟨g, fun e he => ?_⟩
  obtain ⟨w1, w2, w3, w4, w5⟩ := hg e he
  exact ⟨⟨w1, w2, w3⟩, w4, TR_QQ (fun q hq b1 _ => ⟨hq.1, b1, hq.2.1⟩) _ _ _ _ _ _ w5⟩
theorem L_chn {T : Nat → Nat → Nat → Prop} {s : tS} : ∀ (L : List cE) (p : Int32), lnk s (L.map cEy) p → (∀ e, e ∈ L → T e.1 (cEy e) (cEW e)) → chn T s (L.map Prod.fst) p (sW L) := by
  intro L
  induction L with
  | nil => intro p h _; exact h
  | cons e l ih =>
    intro p ⟨h1, h2, h3⟩ hT
    exact ⟨cEy e, cEW e, sW l, h1, h2, hT e (by simp), Nat.le_refl _, ih _ h3 (fun z hz => hT z (by simp [hz]))⟩
/-- the component writes into what is its own yet -/
theorem BS_c {f0 p f p' f' : Nat} {vo0 vo : Nat → Nat} {Op : Nat → Prop} {E X N K : Nat} {L : List cE} {c0 c c' : cS} {s0 s : tS} (hz : (cLs c0 (r + 8)).length = cnt s0 35) (h : BS χ n t r f0 vo0 Op Oa Ou E X O c0 s0 N K L p f vo c s) (hR' : RP χ n t r p' f' vo (fun y => Op y ∨ y = N) Oa Ou (E + X + sW L) O c' s) (hST' : ST n r f c s f' c' s) : BS χ n t r f0 vo0 Op Oa Ou E X O c0 s0 N K L p' f' vo c' s := by
  obtain ⟨hR, hST, hvo, hN0, hN1, hKS, k66, k67, k71, hl, hnd, g, hg⟩ := h
  have hu0 : cnt s0 64 < cnt s 35 := by
    rw [← hKS.2.2.2.2]
    exact hR.2.2.2.1.2.2.2.2.2.2.2.1.1.2.1
  refine ⟨hR', ST_trans (ST_lz hz hR hST) hST hST', hvo, hN0, hN1, hKS, k66, k67, k71, hl, hnd, g, fun e he => ?_⟩
  obtain ⟨w1, w2, w3, w4, w5⟩ := hg e he
  exact ⟨w1, w2, w3, w4, TR_mono hST'.1 hST'.2.1 (RP_len hR) (fun v hv => (hR.2.2.2.1.2.2.2.2.2.2.1.2.1 v hv).2.2.1) (fun q _ z _ => rfl) hu0 g _ _ _ _ _ (fun z _ => rfl) w5⟩
/-- the node is closed; its kind tells nothing of the unit -/
theorem BS_end0 {f0 p0 p f : Nat} {vo0 vo : Nat → Nat} {Op : Nat → Prop} {E X N K H D a g : Nat} {L : List cE} {c0 c : cS} {s0 s : tS} (hp : p0 ≤ f) (h : BS χ n t r f0 vo0 Op Oa Ou E X O c0 s0 N K L p f vo c s) (hK : K ≤ 42) (hk : K ≠ 7 ∧ K ≠ 8 ∧ K ≠ 10 ∧ K ≠ 23 ∧ K ≠ 25 ∧ K ≠ 26 ∧ K ≠ 27) (hT : TR g (fun q => cnt s0 65 ≤ q ∧ q < cnt s 65 ∧ q ≠ N) r c s (cnt s0 64) H D a N (X + sW L)) :
    PXo χ n t r f0 p0 vo0 Op Oa Ou E O c0 s0 H D a N c s p f := by
  obtain ⟨hR, hST, hvo, hN0, hN1, hKS, k66, k67, k71, hl, hnd, hg⟩ := h
  have ck : ca s 66 N = K := ca_of k66 (by omega)
  have hR2 := P_close0 hR (by rw [ck]; exact hk)
  exact ⟨vo, g, X + sW L, by rw [← Nat.add_assoc]; exact hR2, hST, hvo, hN0, hN1, hT, k71, hKS, hp⟩
/-- what a tree's root says of the node -/
theorem BS_root {f0 p f : Nat} {vo0 vo : Nat → Nat} {Op : Nat → Prop} {E X N K : Nat} {L : List cE} {c0 c : cS} {s0 s : tS} (h : BS χ n t r f0 vo0 Op Oa Ou E X O c0 s0 N K L p f vo c s) (hK : K ≤ 42) : N < cnt s 65 ∧ aok s 67 N 59 ∧ ca s 67 N = cnt s0 64 ∧ aok s 66 N 42 ∧ ca s 66 N = K := by
  obtain ⟨hR, hST, hvo, hN0, hN1, hKS, k66, k67, k71, hl, hnd, hg⟩ := h
  have hcu := hR.2.2.2.1.2.2.2.2.2.2.2.1.1
  rw [hKS.2.2.2.2] at hcu
  have := hcu.1.2
  rw [hKS.2.2.2.2] at this
  exact ⟨hN1, aok_of k67 (by omega) (by omega), ca_of k67 (by omega), aok_of k66 (by omega) hK, ca_of k66 (by omega)⟩
end
