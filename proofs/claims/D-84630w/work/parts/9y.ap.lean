set_option maxRecDepth 100000
set_option maxHeartbeats 4000000
/-! D74: a node takes in what was read before it (all told); an apply -/
section
variable {χ : Nat → Int32} {n t r : Nat} {Oa Ou : Nat → Prop} {O : Nat}
theorem BS_adoptW (d d2 : Nat) {f0 p1 f1 p2 f2 H D a y K g W : Nat} {vo0 vo1 vo2 : Nat → Nat} {Op : Nat → Prop} {E : Nat} {c0 c1 c2 : cS} {s0 s1 s2 : tS} {k u v : Int32} (hz : (cLs c0 (r + 8)).length = cnt s0 35) (hK : K ≤ 42) (hk : k = Int32.ofNat K)
    (hR1 : RP χ n t r p1 f1 vo1 Op Oa Ou (E + W) O c1 s1) (hST : ST n r f0 c0 s0 f1 c1 s1) (hvo : ∀ v, v < cnt s0 50 → vo1 v = vo0 v) (hy0 : cnt s0 65 ≤ y) (hy1 : y < cnt s1 65) (hT : TR g (fun q => cnt s0 65 ≤ q ∧ q < cnt s1 65 ∧ q ≠ y) r c1 s1 (cnt s0 64) H D a y W) (h71 : tA s1 71 y = -1) (hKS1 : KS s0 s1)
    (hR2 : RP χ n t r p2 f2 vo2 Op Oa Ou (E + W + 60) O c2 s2) (hvo2 : ∀ v, v < cnt s1 50 → vo2 v = vo1 v) (hKC : KC r c1 c2) (hKT : KT s1 s2) (hold : ∀ q, q < cnt s1 65 → ∀ z, z ∈ [66, 67, 68, 69, 70, 71, 72] → tA s2 z q = tA s1 z q) (h65 : cnt s2 65 = cnt s1 65) (h62 : cnt s2 62 = cnt s1 62 + 1) (hKS : KS s1 s2)
    (h1 : cNx c2 + 300 * (n - f2) ≤ cNx c0 + 300 * (n - f0)) (h2 : cSl c2 + 2000 * (n - f2) ≤ cSl c0 + 2000 * (n - f0)) (hff : f1 ≤ f2) (hraw : ∀ b, raw c1 b → raw c2 b) :
    ∃ s3, cT (d + 1) 47 [eR (.ref 0), eI k, eI u, eI v] s2 = some (.inl (some (eI (Int32.ofNat (cnt s1 65)))), ndT s2 (Int32.ofNat K) u v) ∧ cT (d2 + 2) 49 [eR (.ref 0), eI (Int32.ofNat (cnt s1 65)), eI (Int32.ofNat y)] (ndT s2 (Int32.ofNat K) u v) = some (.inl none, s3) ∧ s3 = gtT (ndT s2 (Int32.ofNat K) u v) (cnt s1 65) y [] ∧ BS χ n t r f0 vo0 Op Oa Ou E 60 O c0 s0 (cnt s1 65) K [(a, y, H, D, W)] p2 f2 vo2 c2 s3 ∧ tA s3 68 (cnt s1 65) = u ∧ tA s3 69 (cnt s1 65) = v := by
  have hn62 := hR1.2.2.2.1.2.1.2.2.2.2.2
  obtain ⟨e3, hR3, hST3⟩ := P_node d K hK u v hR2 (by omega)
  obtain ⟨n1, n2, n3, n4, n5, n6, n7⟩ := nd_new s2 (Int32.ofNat K) u v
  have hthd := nd_th s2 (Int32.ofNat K) u v
  have hold2 : ∀ {q : Nat}, q ≠ cnt s2 65 → ∀ z, tA (ndT s2 (Int32.ofNat K) u v) z q = tA s2 z q := fun hy z => nd_old s2 _ _ _ hy z
  have nd65 := (nd_cnt (k := Int32.ofNat K) (a := u) (b := v) hR2.2.2.2.1.2.1.2.2.2.2.1).1
  have e64 := hR2.2.2.2.1.2.2.2.2.2.2.2.1.1.1.1
  have h900 := hR3.2.2.2.1.2.1.2.2.2.2.1.2
  have c64 : cnt s2 64 = cnt s0 64 := hKS.2.2.2.2.trans hKS1.2.2.2.2
  have hu0 : cnt s0 64 < cnt s1 35 := by
    rw [← hKS1.2.2.2.2]
    exact hR1.2.2.2.1.2.2.2.2.2.2.2.1.1.2.1
  rw [h65] at n1 n2 n3 n4 n5 n6 n7 hR3 hold2 nd65 e3
  have h71' : tA (ndT s2 (Int32.ofNat K) u v) 71 y = -1 := by rw [hold2 (by omega), hold y hy1 71 (by simp)]; exact h71
  have hN0 : lnk (ndT s2 (Int32.ofNat K) u v) [] (tA (ndT s2 (Int32.ofNat K) u v) 70 (cnt s1 65)) := n5
  have e4 := t_gets d2 (x := cnt s1 65) (y := y) (ys := []) hR3.2.1 (by omega) (by omega) hN0
  obtain ⟨g70, g71, g72, g72y, glnk⟩ := gt_facts (s := ndT s2 (Int32.ofNat K) u v) (N := cnt s1 65) (y := y) (ys := []) (by simp) (by simp) (by omega) List.nodup_nil hN0 h71' (by omega)
  have hth := gt_th (ndT s2 (Int32.ofNat K) u v) (cnt s1 65) y []
  have hKT2 : KT s1 (ndT s2 (Int32.ofNat K) u v) := KT_trans hKT hST3.2.1
  refine ⟨_, by rw [hk]; exact e3, e4, rfl, ?_, by rw [th_A hth (by decide)]; exact n3, by rw [th_A hth (by decide)]; exact n4⟩
  generalize gtT (ndT s2 (Int32.ofNat K) u v) (cnt s1 65) y [] = s3 at *
  have c67N : ca (ndT s2 (Int32.ofNat K) u v) 67 (cnt s1 65) = cnt s2 64 := ca_of (n2.trans e64) (by have := hR2.2.2.2.1.2.2.2.2.2.2.2.1.1.1.2; omega)
  have c67y : ca (ndT s2 (Int32.ofNat K) u v) 67 y = cnt s0 64 := by
    rw [ca_eq (hold2 (by omega) 67), ca_eq (hold y hy1 67 (by simp))]
    exact (TR_root _ _ _ _ _ _ _ hT).2
  have hou : Ou (cnt s2 64) := hR2.2.2.2.2.2.1
  have hsame : ∀ q, q ≠ cnt s1 65 → q ≠ y → ∀ z, tA s3 z q = tA (ndT s2 (Int32.ofNat K) u v) z q := fun q q1 q2 z => by
    by_cases hz' : z ∈ [70, 71, 72]
    · simp only [List.mem_cons, List.not_mem_nil, or_false] at hz'
      rcases hz' with e | e | e <;> rw [e]
      · exact g70 q q1
      · exact g71 q (by simp)
      · exact g72 q q2
    · exact th_A hth hz' q
  have hRn := P_links hR3 hth (fun q _ ho z _ => hsame q (by rintro rfl; exact ho (by rw [c67N]; exact hou)) (by rintro rfl; exact ho (by rw [c67y, ← c64]; exact hou)) z)
  have hKTn : KT (ndT s2 (Int32.ofNat K) u v) s3 := KT_of hth (by decide)
  have hl01 := ST_lz hz hR1 hST
  have n65 : cnt s3 65 = cnt s1 65 + 1 := (th_cnt hth (by simp)).trans nd65
  have h065 : cnt s0 65 ≤ cnt s1 65 := hST.2.1.1 65 (by simp)
  refine ⟨?_, ⟨KC_trans hl01 hST.1 hKC, KT_trans hST.2.1 (KT_trans hKT2 hKTn), fun q hq z hz' => ?_, h1, h2, Nat.le_trans hST.2.2.2.2.2.1 hff, fun b q => hraw b (hST.2.2.2.2.2.2 b q)⟩, fun w hw => ?_, h065, by omega, KS_trans hKS1 (KS_trans hKS (KS_trans (KS_th hthd (by decide)) (KS_th hth (by decide)))), ?_, ?_, ?_, glnk, by simp, g, fun e he => ?_⟩
  · have e : E + 60 + sW [(a, y, H, D, W)] = E + W + 60 := by show E + 60 + (W + 0) = _; omega
    rw [e]; exact hRn
  · rw [hsame q (by omega) (by omega), hold2 (by omega), hold q (by omega) z hz']
    exact hST.2.2.1 q hq z hz'
  · rw [hvo2 w (Nat.lt_of_lt_of_le hw (hST.2.1.1 50 (by simp))), hvo w hw]
  · rw [th_A hth (by decide)]; exact n1
  · rw [th_A hth (by decide), n2, e64, c64]
  · rw [g71 _ (by simp)]; exact n6
  · rw [List.mem_singleton] at he
    rw [he]
    refine ⟨hy0, by show y < cnt s3 65; omega, by show y ≠ _; omega, g72y, ?_⟩
    have w7 := TR_mono hKC (KT_trans hKT2 hKTn) (RP_len hR1) (fun v hv => (hR1.2.2.2.1.2.2.2.2.2.2.1.2.1 v hv).2.2.1) (fun q hq z hz' => by rw [hsame q (by omega) hq.2.2, hold2 (by omega), hold q hq.2.1 z hz']) hu0 g _ _ _ _ _ (fun z hz' => by
      have hz2 : z ∈ [66, 67, 68, 69, 70, 71, 72] := by simp only [List.mem_cons, List.not_mem_nil, or_false] at hz' ⊢; omega
      have e5 : tA s3 z y = tA (ndT s2 (Int32.ofNat K) u v) z y := by
        by_cases q : z = 70
        · rw [q]; exact g70 _ (by omega)
        · exact th_A hth (by simp only [List.mem_cons, List.not_mem_nil, or_false] at hz' ⊢; omega) _
      rw [e5, hold2 (by omega), hold y hy1 z hz2]) hT
    exact TR_Q (fun q hq => ⟨hq.1, by omega, by simp only [List.map_cons, List.map_nil, List.mem_singleton]; exact hq.2.2⟩) _ _ _ _ _ _ _ w7
end
section
theorem bits_or (b0 b1 b2 b3 : Bool) : ∀ m, m < 4 → ∃ d0 d1 d2 d3 : Bool, (((if b0 then 1 else 0) + (if b1 then 2 else 0) + (if b2 then 4 else 0) + (if b3 then 8 else 0) : Int32) ||| ((1 : Int32) <<< (Int32.ofNat m &&& 31))) = ((if d0 then 1 else 0) + (if d1 then 2 else 0) + (if d2 then 4 else 0) + (if d3 then 8 else 0) : Int32) ∧ ∀ m', m' < 4 → (nthD false [d0, d1, d2, d3] m' = true ↔ nthD false [b0, b1, b2, b3] m' = true ∨ m' = m)
  | 0, _ => ⟨true, b1, b2, b3, by cases b0 <;> cases b1 <;> cases b2 <;> cases b3 <;> decide, fun m' h => by
    match m', h with
    | 0, _ => simp [nthD]
    | 1, _ => simp [nthD]
    | 2, _ => simp [nthD]
    | 3, _ => simp [nthD]⟩
  | 1, _ => ⟨b0, true, b2, b3, by cases b0 <;> cases b1 <;> cases b2 <;> cases b3 <;> decide, fun m' h => by
    match m', h with
    | 0, _ => simp [nthD]
    | 1, _ => simp [nthD]
    | 2, _ => simp [nthD]
    | 3, _ => simp [nthD]⟩
  | 2, _ => ⟨b0, b1, true, b3, by cases b0 <;> cases b1 <;> cases b2 <;> cases b3 <;> decide, fun m' h => by
    match m', h with
    | 0, _ => simp [nthD]
    | 1, _ => simp [nthD]
    | 2, _ => simp [nthD]
    | 3, _ => simp [nthD]⟩
  | 3, _ => ⟨b0, b1, b2, true, by cases b0 <;> cases b1 <;> cases b2 <;> cases b3 <;> decide, fun m' h => by
    match m', h with
    | 0, _ => simp [nthD]
    | 1, _ => simp [nthD]
    | 2, _ => simp [nthD]
    | 3, _ => simp [nthD]⟩
variable {χ : Nat → Int32} {n t r p f : Nat} {vo : Nat → Nat} {Op Oa Ou : Nat → Prop} {E O : Nat} {c : cS} {s : tS}
/-- an apply is closed: its unit's bits -/
theorem P_close8 {N u m : Nat} (h : RP χ n t r p f vo (fun y => Op y ∨ y = N) Oa Ou E O c s) (hNo : ¬ Op N) (hk : ca s 66 N = 8) (h67 : ca s 67 N = u) (hm : m < 4) (h68 : tA s 68 N = Int32.ofNat m) :
    RP χ n t r p f vo Op Oa Ou E O (csI c 1615 (lid c (r + 8) u) (cI c 1615 (lid c (r + 8) u) ||| ((1 : Int32) <<< (Int32.ofNat m &&& 31)))) s ∧ KC r c (csI c 1615 (lid c (r + 8) u) (cI c 1615 (lid c (r + 8) u) ||| ((1 : Int32) <<< (Int32.ofNat m &&& 31)))) := by
  have h0 := h
  obtain ⟨hL, hfi, hn, hQ, hN, hOu, hOp, hOa, hOu2⟩ := h
  obtain ⟨hS, hC, hG, hLm, hM, hU, hV, hI, ⟨f1, f2⟩, hA, hB⟩ := hQ
  have hNx := (hOp N (Or.inr rfl)).2
  have hu : u < cnt s 35 := by rw [← h67]; exact (f1 N hNx).2.1
  have hcu : cCl c (lid c (r + 8) u) = 16 := (hU.2.1.2 u (by omega)).2
  have clo : ∀ x j, ca s 66 x = j → j ≠ 8 → ¬ Op x → ¬ (Op x ∨ x = N) := by
    intro x j e q ho z
    rcases z with z | z
    · exact ho z
    · rw [z] at e; omega
  obtain ⟨e1u, e2u, e3u, e4u, e5u, e6u, e7u, ⟨b0, b1, b2, b3, e8u, e8u'⟩, e9u, e10u, e11u⟩ := f2 u hu
  obtain ⟨d0, d1, d2, d3, hd, hd'⟩ := bits_or b0 b1 b2 b3 m hm
  obtain ⟨w, hw⟩ : ∃ w : Int32, w = (if d0 then 1 else 0) + (if d1 then 2 else 0) + (if d2 then 4 else 0) + (if d3 then 8 else 0) := ⟨_, rfl⟩
  rw [e8u, hd, ← hw]
  have hch : CH [1615] [] [] [] c (csI c 1615 (lid c (r + 8) u) w) := CH_I (Or.inl (by simp)) (CH_refl _ _ _ _ c)
  have hth := TH_refl [] [] [] [] s
  have hKC : KC r c (csI c 1615 (lid c (r + 8) u) w) := KC_of hch hS (Nat.le_refl _) (by decide)
  have i : ∀ y o, y ≠ 1615 → cI (csI c 1615 (lid c (r + 8) u) w) y o = cI c y o := fun y o hy => by rw [g_I_I, if_neg (fun q => hy q.1)]
  refine ⟨⟨LX_ch hch hth rfl rfl (by decide) hL, hfi, CLN_I (by rw [hcu]) hn, ⟨RSt_fr hch (by decide) hS, RCt_fr hch hth hS (by decide) hC, RGt_fr hch hth hS (by decide) hG, RLt_fr hch hth hS (by decide) hLm, RMt_fr hch hth hS (by decide) (by decide) hM, RUt_fr hch hth hS (by decide) (by decide) hU, RVt_fr hch hth hS hU (by decide) hV, RIt_fr hch hth hS hV (by decide) hI, ⟨f1, fun k hk' => ?_⟩, RAt_fr hch hth hS (by decide) hA, ?_⟩, hN, hOu, fun y hy => hOp y (Or.inl hy), hOa, hOu2⟩, hKC⟩
  · obtain ⟨e1, e2, e3, e4, e5, e6, e7, ⟨a0, a1, a2, a3, e8, e8'⟩, e9, ⟨K, e10, ⟨X, hX, e11⟩, e12⟩, K2, e13, ⟨X2, hX2, e14⟩, e15⟩ := f2 k hk'
    refine ⟨fun y hy => ?_, fun q => e2 ((i 1612 _ (by decide)).symm.trans q), fun x hx ho q z => (i 1612 _ (by decide)).trans (e3 x hx (clo x _ rfl (by omega) ho) q z), fun q => e4 ((i 1613 _ (by decide)).symm.trans q), fun x hx ho q z => (i 1613 _ (by decide)).trans (e5 x hx (clo x _ z (by omega) ho) q z), fun q => e6 ((i 1616 _ (by decide)).symm.trans q), fun x hx ho q z => (i 1616 _ (by decide)).trans (e7 x hx (clo x _ z (by omega) ho) q z), ?_, fun x hx ho z => ?_, ⟨K, e10, ⟨X, hX, fun j hj => ?_⟩, fun x hx ho q z => e12 x hx (clo x _ z (by omega) ho) q z⟩, K2, e13, ⟨X2, hX2, e14⟩, fun x hx ho q z => e15 x hx (clo x _ z (by omega) ho) q z⟩
    · rw [show cI (csI c 1615 (lid c (r + 8) u) w) y (lid (csI c 1615 (lid c (r + 8) u) w) (r + 8) k) = cI c y (lid c (r + 8) k) from i y _ (by rintro rfl; simp at hy)]
      exact e1 y hy
    · by_cases hku : k = u
      · rw [hku]
        refine ⟨d0, d1, d2, d3, ?_, fun m' hm' => ⟨fun q => ?_, fun x hx ho q z y => (hd' m' hm').2 ?_⟩⟩
        · rw [← hw]
          show cI (csI c 1615 (lid c (r + 8) u) w) 1615 (lid c (r + 8) u) = w
          rw [g_I_I, if_pos ⟨rfl, rfl⟩]
        · rcases (hd' m' hm').1 q with z | z
          · obtain ⟨x, x1, x2, x3⟩ := (e8u' m' hm').1 z
            exact ⟨x, x1, fun w => x2 (Or.inl w), x3⟩
          · exact ⟨N, hNx, hNo, h67, hk, by rw [z]; exact h68⟩
        · by_cases hxN : x = N
          · right
            rw [hxN, h68, z_eq (by omega) (by omega)] at y
            exact y.symm
          · left
            exact (e8u' m' hm').2 x hx (fun z' => by rcases z' with z' | z'; exact ho z'; exact hxN z') q z y
      · refine ⟨a0, a1, a2, a3, ?_, fun m' hm' => ⟨fun q => ?_, fun x hx ho q z y => ?_⟩⟩
        · show cI (csI c 1615 (lid c (r + 8) u) w) 1615 (lid c (r + 8) k) = _
          rw [g_I_I, if_neg (fun q => hku (u_inj h0 hk' hu q.2))]
          exact e8
        · obtain ⟨x, x1, x2, x3⟩ := (e8' m' hm').1 q
          exact ⟨x, x1, fun w => x2 (Or.inl w), x3⟩
        · exact (e8' m' hm').2 x hx (fun z' => by rcases z' with z' | z'; exact ho z'; rw [z', h67] at q; exact hku q.symm) q z y
    · by_cases hxN : x = N
      · rw [hxN]; exact aok_of h68 (by omega) (by omega)
      · exact e9 x hx (fun z' => by rcases z' with z' | z'; exact ho z'; exact hxN z') z
    · obtain ⟨x1, x2, x3⟩ := e11 j hj
      exact ⟨x1, fun w => x2 (Or.inl w), x3⟩
  · exact RBt_mono hKC (KT_of hth (by decide)) hU.2.1.1 (fun v hv => (hV.2.1 v hv).2.2.1) rfl (Nat.le_refl _) (fun _ _ _ => rfl) (fun _ _ _ => rfl) (fun _ _ _ _ _ => rfl) hB
end
section
variable {χ : Nat → Int32} {n t r p f : Nat} {vo : Nat → Nat} {Op Oa Ou : Nat → Prop} {E O : Nat} {c c' : cS} {s : tS} {L : Nat} {l : List Value}
/-- an apply's part -/
def apC (c : cS) (a L : Nat) : cS := csR (csR (nwC c 32) 3200 (cNx c) (.ref a)) 3201 (cNx c) (.ref L)
theorem c_ap (d a : Nat) : cC (d + 11) 3200 [eR (.ref (cNx c)), eR (.ref a), eR (.ref L)] (nwC c 32) = some (.inl none, apC c a L) := by
  have ha := nw_cl c 32
  rw [kX32_init, r_cck, if_pos ha, uX32_init, kX18_init, uX18_init]
  simp only [pP, ha, show misR (.ref L) = true from rfl, show misR (.ref a) = true from rfl, rC, bB, Nat.reduceDiv, Nat.reduceLeDiff, Nat.reduceLT,  eq_self, if_true, if_false, true_and, and_true, false_and, and_false, or_true, true_or, or_false, false_or, reduceIte, reduceCtorEq, Nat.reduceEqDiff, not_true_eq_false, not_false_eq_true, r_misN, r_misR, gC]
  rfl
theorem ap_facts (d a : Nat) (hR : RP χ n t r p f vo Op Oa Ou E O c s) (e : cCl c L = 5891) : (∀ p f vo Op Oa Ou E O, RP χ n t r p f vo Op Oa Ou E O c s → RP χ n t r p f vo Op Oa Ou E O (apC c a L) s) ∧ KC r c (apC c a L) ∧ (∀ b : Nat × List Value, b.1 ≠ L → raw c b → raw (apC c a L) b) ∧ cCl (apC c a L) (cNx c) = 32 ∧ cR (apC c a L) 3200 (cNx c) = .ref a ∧ cR (apC c a L) 3201 (cNx c) = .ref L ∧ cCl (apC c a L) L = 5891 ∧ cLs (apC c a L) L = cLs c L ∧ cNx (apC c a L) = cNx c + 1 ∧ cSl (apC c a L) = cSl c + 2 := by
  have hn := hR.2.2.1
  have hS := hR.2.2.2.1.1
  have h0 := (hn _ (Nat.le_refl _)).1
  have hLn : L ≠ cNx c := by rintro rfl; rw [h0] at e; cases e
  have eL : cCl (nwC c 32) L = 5891 := by
    show cCl (csCl c (cNx c) 32) L = _
    rw [g_Cl_Cl, if_neg hLn]; exact e
  have hch1 : CH [] [] [] [] c (csR (nwC c 32) 3200 (cNx c) (.ref a)) := CH_R (Or.inr fun q => q.1 h0) (nw_ch hn 32)
  have hch : CH [] [] [] [] c (apC c a L) := CH_R0 (fun q => BD_R0 (by rw [show cCl (csR (nwC c 32) 3200 (cNx c) (.ref a)) L = 5891 from eL]; decide) (hch1.2.2.2.2.2.2.2 q)) (Or.inr fun q => q.1 h0) hch1
  have hcl : CLN (apC c a L) := cC_cln (c_ap d a) (P_new 32 hR).2.2.1
  refine ⟨fun _ _ _ _ _ _ _ _ h => RP_fr hch (TH_refl [] [] [] [] _) (fun _ _ _ => ⟨rfl, rfl⟩) hcl (by show cSl c ≤ cSl c + _; omega) (by decide) (by decide) (by simp) h, KC_R h0 (KC_R h0 (KC_new hn hS 32)), fun b hb q => ?_, nw_cl c 32, by simp [apC, gC], by simp [apC, gC], eL, rfl, rfl, rfl⟩
  have k : ∀ x o, x ≠ 3200 → x ≠ 3201 → cR (apC c a L) x o = cR (nwC c 32) x o := fun x o hx hy => by
    show cR (csR (csR (nwC c 32) 3200 (cNx c) (.ref a)) 3201 (cNx c) (.ref L)) x o = _
    rw [g_R_R, if_neg (fun z => hy z.1), g_R_R, if_neg (fun z => hx z.1)]
  rcases nw_raw hn 32 b q with w | ⟨w1, w2, w3⟩
  · left
    unfold raw0 at w ⊢
    rw [k 3301 _ (by decide) (by decide), k 3100 _ (by decide) (by decide), k 3000 _ (by decide) (by decide), k 2000 _ (by decide) (by decide)]
    exact w
  · refine Or.inr ⟨w1, w2, fun o => ?_⟩
    rw [k 2700 _ (by decide) (by decide), k 3000 _ (by decide) (by decide), k 3003 _ (by decide) (by decide)]
    refine ⟨(w3 o).1, (w3 o).2.1, fun z => ?_⟩
    show cR (csR (csR (nwC c 32) 3200 (cNx c) (.ref a)) 3201 (cNx c) (.ref L)) 3201 o ≠ _
    rw [g_R_R]
    by_cases y : o = cNx c
    · rw [if_pos ⟨rfl, y⟩]
      intro w
      cases w
      exact hb rfl
    · rw [if_neg (fun w => y w.2), g_R_R, if_neg (fun w => y w.2)]
      exact (w3 o).2.2 z
end
section
variable {χ : Nat → Int32} {n t r : Nat} {Op Oa Ou : Nat → Prop} {E O : Nat}
variable {f0 p0 : Nat} {vo0 : Nat → Nat} {c0 : cS} {s0 : tS} {vq : Nat → Nat} {Opq Oaq Ouq : Nat → Prop} {Eq' Oq' : Nat} {sq : tS} {Hq Dq : Nat} {kC : Value → cS → cRes} {kT : Int32 → tS → tR}
theorem FH_68 {N : Nat} (hN : N < 900) (z : Nat) (hz : z = 68 ∨ z = 69) (hF : ∀ y, FH (kT y)) (v : Int32) : FH (fun h => tsaI h z (Int32.ofNat N) v fun h19 => kT (Int32.ofNat N) h19) := fun s q => by
  rcases hz with rfl | rfl
  · show ∃ q s', tsaI s 68 (Int32.ofNat N) v _ = _ ∧ _
    rw [qs_68 hN]; exact hF _ (tsA s 68 N v) q
  · show ∃ q s', tsaI s 69 (Int32.ofNat N) v _ = _ ∧ _
    rw [qs_69 hN]; exact hF _ (tsA s 69 N v) q
/-- an apply behind what was read -/
theorem J_apply (dc dt : Nat) {H D lv pz Ez Oz p f a x : Nat} {c : cS} {s : tS} (hH : 4 ≤ H) (hsub : SP χ n t r Oa Ou O lv (H - 3) D (dc + 30) 813 (dt + 30) 40) (hlv : cnt s0 63 = lv) (hR0 : RP χ n t r pz f0 vo0 Op Oa Ou Ez Oz c0 s0) (hF : ∀ y, FH (kT y))
    (hX : PXo χ n t r f0 p0 vo0 Op Oa Ou E O c0 s0 H D a x c s p f) (hs : tI s 8 = 5 ∧ tI s 11 = 40)
    (hgo : ∀ a' x' c' s' p' f', PXo χ n t r f0 p0 vo0 Op Oa Ou E O c0 s0 H D a' x' c' s' p' f' → f < f' → PX χ n t r f0 p0 vq Opq Oaq Ouq Eq' Oq' c0 sq Hq Dq (kC (.ref a') c') (kT (Int32.ofNat x') s')) :
    PX χ n t r f0 p0 vq Opq Oaq Ouq Eq' Oq' c0 sq Hq Dq (bV (cC (dc + 31) 818 [eR (.ref r)] c) fun h7 => bR (cC (dc + 31) 838 [eR (.ref r)] h7) fun v9 h8 => cgR h8 803 (.ref r) fun v10 => cgI h8 1615 v10 fun v11 => bI (cC (dc + 31) 9103 [eR v9] h8) fun v13 h12 => cpI h12 1615 v10 (v11 ||| ((1 : Int32) <<< (v13 &&& 31))) fun h14 => cnw h14 32 fun v15 h16 => bV (cC (dc + 31) 3200 [eR v15, eR (.ref a), eR v9] h16) fun h17 => kC v15 h17)
      (bI (cT (dt + 31) 46 [eR (.ref 0)] s) fun v13 h12 => if v13 = 0 then some (.inl (some (eI (Int32.ofNat x))), h12) else bI (cT (dt + 31) 47 [eR (.ref 0), eI 8, eI 0, eI 0] h12) fun v15 h14 => bV (cT (dt + 31) 49 [eR (.ref 0), eI v15, eI (Int32.ofNat x)] h14) fun h16 => bI (cT (dt + 31) 73 [eR (.ref 0), eI v15] h16) fun v18 h17 => tsaI h17 68 v15 v18 fun h19 => kT v15 h19) := by
  have hz := RP_len hR0
  have hX' := hX
  obtain ⟨vo1, g, W, hR1, hST, hvo, hy0, hy1, hT, h71, hKS1, hpf⟩ := hX'
  have k1 := hST.2.2.2.1
  have k2 := hST.2.2.2.2.1
  rcases P_part (dc + 16) (dt + 28) hR1 with ⟨a9, c9, s9, k9, pl9, w1, w2, w3, w4, w5, w6, w7, w8⟩ | ⟨e1, e2, hR2, hST2, hc62⟩
  · left
    rw [w1, w2, b_Vx, b_I, if_pos rfl]
    exact ⟨a9, c9, _, s9, k9, pl9, rfl, rfl, w3, w4, w5, w6, by omega, by omega⟩
  obtain ⟨s3, e47, e49, g5, hB5, k68, k69⟩ := BS_adoptW (dt + 30) (dt + 29) (a := a) (H := H) (D := D) (p2 := p) (f2 := f) (c2 := ptC c r) (s2 := ptT s) (K := 8) (k := 8) (u := 0) (v := 0) hz (by decide) rfl hR1 hST hvo hy0 hy1 hT h71 hKS1 hR2 (fun _ _ => rfl) hST2.1 hST2.2.1 (fun q hq z hz' => hST2.2.2.1 q hq z hz') rfl hc62 (KS_pt _) (by show cNx c + _ ≤ _; omega) (by show cSl c + _ ≤ _; omega) (Nat.le_refl _) (fun b q => q)
  have hN9 : cnt s 65 < 900 := by have := hB5.2.2.2.2.1; have := hB5.1.2.2.2.1.2.1.2.2.2.2.1.2; omega
  have hs3 : tI s3 8 = 5 ∧ tI s3 11 = 40 := by
    rw [g5, th_I (gt_th _ _ _ _) (by simp), th_I (gt_th _ _ _ _) (by simp), th_I (nd_th _ _ _ _) (by simp), th_I (nd_th _ _ _ _) (by simp)]
    exact hs
  rw [e1, b_V, e2, b_I, if_neg (by decide), e47, b_I, e49, b_V]
  refine J_given (kT := fun v18 h17 => tsaI h17 68 (Int32.ofNat (cnt s 65)) v18 fun h19 => kT (Int32.ofNat (cnt s 65)) h19) (X := 60) dc dt hsub hlv hz hR0.2.2.1 (fun v => FH_68 hN9 68 (Or.inl rfl) hF v) hB5 hs3 (fun L es p' f' vo' c' s' hB hHD eL hlL uL h3 hff hpp hK hT' hraw ho m1 m2 hL0 => ?_)
  have hR6 := hB.1
  have hS6 := hR6.2.2.2.1.1
  have hU6 := hR6.2.2.2.1.2.2.2.2.2.1
  have hI6 := hR6.2.2.2.1.2.2.2.2.2.2.2.1
  have hcu := (RUt_cap hU6 hI6.1.2.1).2.2.2
  have hlen : (cLs c' L).length = es.length := by rw [hlL, List.length_map, List.length_map]
  have hB6 := BS_w (z := 68) (v := Int32.ofNat es.length) (Or.inl rfl) hz hB (by decide) (by decide)
  obtain ⟨r1, r2, r3, r4, r5⟩ := BS_root hB6 (by decide)
  have hwth : TH [] [] [68] [] s' (tsA s' 68 (cnt s 65) (Int32.ofNat es.length)) := TH_A (by simp) (TH_refl _ _ _ _ _)
  have w68 : tA (tsA s' 68 (cnt s 65) (Int32.ofNat es.length)) 68 (cnt s 65) = Int32.ofNat es.length := by rw [t_A_A, if_pos ⟨rfl, rfl⟩]
  have c64 : cnt s' 64 = cnt s0 64 := hB.2.2.2.2.2.1.2.2.2.2
  have hNo : ¬ Op (cnt s 65) := fun q => by have := (hR0.2.2.2.2.2.2.1 _ q).2; have := hST.2.1.1 65 (by simp); omega
  obtain ⟨hR7, hK7⟩ := P_close8 (m := es.length) hB6.1 hNo r5 r3 (by omega) w68
  rw [← c64] at hR7 hK7
  rw [r_cgR, if_pos hS6.1, hI6.1.2.2, r_cgI, if_pos hcu, c_len (dc + 22) eL rfl, b_I, hlen, r_cpI, if_pos hcu, r_cnw, qs_68 hN9]
  have hnw : ∀ h : cS, cmore (csCl h (cNx h) 32) (csz 32) = nwC h 32 := fun h => rfl
  rw [hnw]
  generalize hcq : csI c' 1615 (lid c' (r + 8) (cnt s' 64)) (cI c' 1615 (lid c' (r + 8) (cnt s' 64)) ||| ((1 : Int32) <<< (Int32.ofNat es.length &&& 31))) = c7 at *
  have eL7 : cCl c7 L = 5891 := by rw [← hcq]; exact eL
  have lL7 : cLs c7 L = cLs c' L := by rw [← hcq]; rfl
  have n7 : cNx c7 = cNx c' := by rw [← hcq]; rfl
  have s7 : cSl c7 = cSl c' := by rw [← hcq]; rfl
  have r7 : ∀ b, raw c' b → raw c7 b := by rw [← hcq]; exact raw_I (fun _ q => q)
  rw [c_ap (dc + 20) a, b_V]
  obtain ⟨w1, w2, w3, w4, w5, w6, w7, w8, w9, w10⟩ := ap_facts dc a hR7 eL7
  have hl7 : (cLs c' (r + 8)).length ≤ (cLs c7 (r + 8)).length := by rw [← hcq]; exact Nat.le_refl _
  have hK8 : KC r c' (apC c7 a L) := KC_trans hl7 hK7 w2
  obtain ⟨g', hg⟩ := BS_kids hB6 hK8
  obtain ⟨q1, q2, q3⟩ := hg (a, x, H, D, W) (by simp)
  have hlnk := hB6.2.2.2.2.2.2.2.2.2.1
  rw [List.cons_append, List.nil_append, List.map_cons] at hlnk
  obtain ⟨j1, j2, j3⟩ := hlnk
  have hch := L_chn (T := fun b y W => (cnt s0 65 ≤ y ∧ y < cnt (tsA s' 68 (cnt s 65) (Int32.ofNat es.length)) 65 ∧ y ≠ cnt s 65) ∧ TR g' (fun q => cnt s0 65 ≤ q ∧ q < cnt (tsA s' 68 (cnt s 65) (Int32.ofNat es.length)) 65 ∧ q ≠ cnt s 65) r (apC c7 a L) (tsA s' 68 (cnt s 65) (Int32.ofNat es.length)) (cnt s0 64) (H - 3) D b y W) _ _ j3 (fun e he => by
    obtain ⟨i1, i2, i3⟩ := hg e (by simp [he])
    rw [(hHD e he).1, (hHD e he).2] at i3
    exact ⟨i1, i3⟩)
  have hraw8 : ∀ b, raw c0 b → raw (apC c7 a L) b := fun b q => w3 b (by rintro rfl; exact raw_cl0 (hST.2.2.2.2.2.2 b q) hL0) (r7 b (hB.2.1.2.2.2.2.2.2 b q))
  have nP : cNx (ptC c r) = cNx c := rfl
  have sP : cSl (ptC c r) = cSl c := rfl
  refine hgo (cNx c7) (cnt s 65) _ _ p' f' (BS_fin (g := g' + 1) hz (by omega) hB6 (by rw [← Nat.add_assoc]; exact w1 _ _ _ _ _ _ _ _ hR7) hK8 (by omega) (by omega) hraw8 ?_) hff
  refine Or.inr ⟨r1, r2, r3, r4, by omega, by omega, ?_⟩
  exact Or.inr (Or.inr (Or.inr (Or.inr (Or.inr (Or.inr (Or.inr (Or.inl ⟨w4, r5, hH, by omega, a, L, es.map Prod.fst, x, W, sW es, w5, w6, w7, by rw [w8, lL7]; exact hlL, by rw [List.length_map]; exact h3, by rw [List.length_map]; exact w68, j1, j2, q2, q1, q3, hch, by show W + sW es + 12 ≤ 60 + (W + sW es); omega⟩)))))))
end
