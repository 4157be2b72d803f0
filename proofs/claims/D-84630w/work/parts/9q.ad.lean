set_option maxRecDepth 100000
set_option maxHeartbeats 4000000
/-! D66: a node takes in what was read before it -/
section
variable {χ : Nat → Int32} {n t r : Nat} {Oa Ou : Nat → Prop} {O : Nat}
theorem BS_adopt (d d2 : Nat) {f0 p0 p1 f1 p2 f2 H D a y K : Nat} {vo0 : Nat → Nat} {Op : Nat → Prop} {E : Nat} {c0 c1 c2 : cS} {s0 s1 s2 : tS} {k u v : Int32} (hz : (cLs c0 (r + 8)).length = cnt s0 35) (hK : K ≤ 42) (hk : k = Int32.ofNat K) (hX : PXo χ n t r f0 p0 vo0 Op Oa Ou E O c0 s0 H D a y c1 s1 p1 f1)
    (hgo : ∀ W vo1, RP χ n t r p1 f1 vo1 Op Oa Ou (E + W) O c1 s1 → (∀ v, v < cnt s0 50 → vo1 v = vo0 v) → ∃ vo2, RP χ n t r p2 f2 vo2 Op Oa Ou (E + W + 60) O c2 s2 ∧ (∀ v, v < cnt s1 50 → vo2 v = vo1 v)) (hKC : KC r c1 c2) (hKT : KT s1 s2) (hold : ∀ q, q < cnt s1 65 → ∀ z, z ∈ [66, 67, 68, 69, 70, 71, 72] → tA s2 z q = tA s1 z q) (h65 : cnt s2 65 = cnt s1 65) (h62 : cnt s2 62 = cnt s1 62 + 1) (hKS : KS s1 s2)
    (h1 : cNx c2 + 300 * (n - f2) ≤ cNx c0 + 300 * (n - f0)) (h2 : cSl c2 + 2000 * (n - f2) ≤ cSl c0 + 2000 * (n - f0)) (hff : f1 ≤ f2) (hraw : ∀ b, raw c1 b → raw c2 b) :
    ∃ W s3 vo2, cT (d + 1) 47 [eR (.ref 0), eI k, eI u, eI v] s2 = some (.inl (some (eI (Int32.ofNat (cnt s1 65)))), ndT s2 (Int32.ofNat K) u v) ∧ cT (d2 + 2) 49 [eR (.ref 0), eI (Int32.ofNat (cnt s1 65)), eI (Int32.ofNat y)] (ndT s2 (Int32.ofNat K) u v) = some (.inl none, s3) ∧ s3 = gtT (ndT s2 (Int32.ofNat K) u v) (cnt s1 65) y [] ∧ BS χ n t r f0 vo0 Op Oa Ou E 60 O c0 s0 (cnt s1 65) K [(a, y, H, D, W)] p2 f2 vo2 c2 s3 ∧ tA s3 68 (cnt s1 65) = u ∧ tA s3 69 (cnt s1 65) = v := by
  obtain ⟨vo1, g, W, hR1, hST, hvo, hy0, hy1, hT, h71, hKS1, hpf⟩ := hX
  obtain ⟨vo2, hR2, hvo2⟩ := hgo W vo1 hR1 hvo
  have hn62 := hR1.2.2.2.1.2.1.2.2.2.2.2
  obtain ⟨e3, hR3, hST3⟩ := P_node d K hK u v hR2 (by omega)
  obtain ⟨n1, n2, n3, n4, n5, n6, n7⟩ := nd_new s2 (Int32.ofNat K) u v
  have hthd := nd_th s2 (Int32.ofNat K) u v
  have hold2 : ∀ {q : Nat}, q ≠ cnt s2 65 → ∀ z, tA (ndT s2 (Int32.ofNat K) u v) z q = tA s2 z q := fun hy z => nd_old s2 _ _ _ hy z
  have nd65 := (nd_cnt (k := Int32.ofNat K) (a := u) (b := v) hR2.2.2.2.1.2.1.2.2.2.2.1).1
  have e64 := hR2.2.2.2.1.2.2.2.2.2.2.2.1.1.1.1
  have h900 := hR3.2.2.2.1.2.1.2.2.2.2.1.2
  have c64 : cnt s2 64 = cnt s0 64 := hKS.2.2.2.2.trans hKS1.2.2.2.2
  have hu0 : cnt s0 64 < cnt s1 35 := by
    rw [← hKS1.2.2.2.2]
    exact hR1.2.2.2.1.2.2.2.2.2.2.2.1.1.2.1
  rw [h65] at n1 n2 n3 n4 n5 n6 n7 hR3 hold2 nd65 e3
  have h71' : tA (ndT s2 (Int32.ofNat K) u v) 71 y = -1 := by rw [hold2 (by omega), hold y hy1 71 (by simp)]; exact h71
  have hN0 : lnk (ndT s2 (Int32.ofNat K) u v) [] (tA (ndT s2 (Int32.ofNat K) u v) 70 (cnt s1 65)) := n5
  have e4 := t_gets d2 (x := cnt s1 65) (y := y) (ys := []) hR3.2.1 (by omega) (by omega) hN0
  obtain ⟨g70, g71, g72, g72y, glnk⟩ := gt_facts (s := ndT s2 (Int32.ofNat K) u v) (N := cnt s1 65) (y := y) (ys := []) (by simp) (by simp) (by omega) List.nodup_nil hN0 h71' (by omega)
  have hth := gt_th (ndT s2 (Int32.ofNat K) u v) (cnt s1 65) y []
  have hKT2 : KT s1 (ndT s2 (Int32.ofNat K) u v) := KT_trans hKT hST3.2.1
  refine ⟨W, _, vo2, by rw [hk]; exact e3, e4, rfl, ?_, by rw [th_A hth (by decide)]; exact n3, by rw [th_A hth (by decide)]; exact n4⟩
  generalize gtT (ndT s2 (Int32.ofNat K) u v) (cnt s1 65) y [] = s3 at *
  have c67N : ca (ndT s2 (Int32.ofNat K) u v) 67 (cnt s1 65) = cnt s2 64 := ca_of (n2.trans e64) (by have := hR2.2.2.2.1.2.2.2.2.2.2.2.1.1.1.2; omega)
  have c67y : ca (ndT s2 (Int32.ofNat K) u v) 67 y = cnt s0 64 := by
    rw [ca_eq (hold2 (by omega) 67), ca_eq (hold y hy1 67 (by simp))]
    exact (TR_root _ _ _ _ _ _ _ hT).2
  have hou : Ou (cnt s2 64) := hR2.2.2.2.2.2.1
  have hsame : ∀ q, q ≠ cnt s1 65 → q ≠ y → ∀ z, tA s3 z q = tA (ndT s2 (Int32.ofNat K) u v) z q := fun q q1 q2 z => by
    by_cases hz' : z ∈ [70, 71, 72]
    · simp only [List.mem_cons, List.not_mem_nil, or_false] at hz'
      rcases hz' with e | e | e <;> rw [e]
      · exact g70 q q1
      · exact g71 q (by simp)
      · exact g72 q q2
    · exact th_A hth hz' q
  have hRn := P_links hR3 hth (fun q _ ho z _ => hsame q (by rintro rfl; exact ho (by rw [c67N]; exact hou)) (by rintro rfl; exact ho (by rw [c67y, ← c64]; exact hou)) z)
  have hKTn : KT (ndT s2 (Int32.ofNat K) u v) s3 := KT_of hth (by decide)
  have hl01 := ST_lz hz hR1 hST
  have n65 : cnt s3 65 = cnt s1 65 + 1 := (th_cnt hth (by simp)).trans nd65
  have h065 : cnt s0 65 ≤ cnt s1 65 := hST.2.1.1 65 (by simp)
  refine ⟨?_, ⟨KC_trans hl01 hST.1 hKC, KT_trans hST.2.1 (KT_trans hKT2 hKTn), fun q hq z hz' => ?_, h1, h2, Nat.le_trans hST.2.2.2.2.2.1 hff, fun b q => hraw b (hST.2.2.2.2.2.2 b q)⟩, fun w hw => ?_, h065, by omega, KS_trans hKS1 (KS_trans hKS (KS_trans (KS_th hthd (by decide)) (KS_th hth (by decide)))), ?_, ?_, ?_, glnk, by simp, g, fun e he => ?_⟩
  · have e : E + 60 + sW [(a, y, H, D, W)] = E + W + 60 := by show E + 60 + (W + 0) = _; omega
    rw [e]; exact hRn
  · rw [hsame q (by omega) (by omega), hold2 (by omega), hold q (by omega) z hz']
    exact hST.2.2.1 q hq z hz'
  · rw [hvo2 w (Nat.lt_of_lt_of_le hw (hST.2.1.1 50 (by simp))), hvo w hw]
  · rw [th_A hth (by decide)]; exact n1
  · rw [th_A hth (by decide), n2, e64, c64]
  · rw [g71 _ (by simp)]; exact n6
  · rw [List.mem_singleton] at he
    rw [he]
    refine ⟨hy0, by show y < cnt s3 65; omega, by show y ≠ _; omega, g72y, ?_⟩
    have w7 := TR_mono hKC (KT_trans hKT2 hKTn) (RP_len hR1) (fun v hv => (hR1.2.2.2.1.2.2.2.2.2.2.1.2.1 v hv).2.2.1) (fun q hq z hz' => by rw [hsame q (by omega) hq.2.2, hold2 (by omega), hold q hq.2.1 z hz']) hu0 g _ _ _ _ _ (fun z hz' => by
      have hz2 : z ∈ [66, 67, 68, 69, 70, 71, 72] := by simp only [List.mem_cons, List.not_mem_nil, or_false] at hz' ⊢; omega
      have e5 : tA s3 z y = tA (ndT s2 (Int32.ofNat K) u v) z y := by
        by_cases q : z = 70
        · rw [q]; exact g70 _ (by omega)
        · exact th_A hth (by simp only [List.mem_cons, List.not_mem_nil, or_false] at hz' ⊢; omega) _
      rw [e5, hold2 (by omega), hold y hy1 z hz2]) hT
    exact TR_Q (fun q hq => ⟨hq.1, by omega, by simp only [List.map_cons, List.map_nil, List.mem_singleton]; exact hq.2.2⟩) _ _ _ _ _ _ _ w7
end
