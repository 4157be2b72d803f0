set_option maxRecDepth 100000
set_option maxHeartbeats 4000000
/-! D93: an asking: what is kept from its beginning on -/
/-- from the asking's beginning (c1, s1) to (c, s): no unit was closed, nothing older was changed -/
def aB (r : Nat) (c1 : cS) (s1 : tS) (c : cS) (s : tS) (m : Nat) : Prop := KC r c1 c ∧ KT s1 s ∧ (cnt s 35 = cnt s1 35 ∧ cnt s 62 = cnt s1 62) ∧ (∀ k, k < cnt s1 35 → cR c 1611 (lid c1 (r + 8) k) = cR c1 1611 (lid c1 (r + 8) k)) ∧ (∀ k, tA s 41 k = tA s1 41 k) ∧ (∀ y, y < cnt s1 65 → ∀ z, z ∈ [66, 67, 68, 69, 70, 71, 72] → tA s z y = tA s1 z y) ∧ cnt s1 48 ≤ m ∧ m < cnt s 48
section
variable {χ : Nat → Int32} {n t r p f p1 f1 : Nat} {vo vo1 : Nat → Nat} {Op Oa Ou Op1 Oa1 : Nat → Prop} {E O O1 : Nat} {c c' c1 : cS} {s s' s1 : tS} {XI XL XR XC YI YL YA YB : List Nat} {m : Nat}
theorem aB_RBt (hR1 : RP χ n t r p1 f1 vo1 Op1 Oa1 Ou E O1 c1 s1) (hA : aB r c1 s1 c s m) : RBt r Ou E c s := by
  obtain ⟨a1, a2, ⟨a3, a3'⟩, a4, a5, a6, _⟩ := hA
  have hV := hR1.2.2.2.1.2.2.2.2.2.2.1
  exact RBt_mono a1 a2 (RP_len hR1) (fun v hv => (hV.2.1 v hv).2.2.1) a3 (by rw [a3']; exact Nat.le_refl _) (fun k hk _ => a4 k hk) (fun k _ _ => a5 k) (fun y hy _ z hz => a6 y hy z hz) hR1.2.2.2.1.2.2.2.2.2.2.2.2.2.2
theorem aB_go (hR1 : RP χ n t r p1 f1 vo1 Op1 Oa1 Ou E O1 c1 s1) (hR : RP χ n t r p f vo Op Oa Ou E O c s) (hA : aB r c1 s1 c s m) (hKC : KC r c c') (hKT : KT s s') (h : CH XI XL XR XC c c') (ht : TH YI YL YA YB s s') (hd : (dj [1611] XR && dj [35, 62] YI && dj [41] YA) = true) (hrow : ∀ y, y < cnt s 65 → ∀ z, z ∈ [66, 67, 68, 69, 70, 71, 72] → tA s' z y = tA s z y) : aB r c1 s1 c' s' m := by
  simp only [Bool.and_eq_true] at hd
  obtain ⟨⟨d1, d2⟩, d3⟩ := hd
  obtain ⟨a1, a2, ⟨a3, a3'⟩, a4, a5, a6, a7, a8⟩ := hA
  have hU := hR.2.2.2.1.2.2.2.2.2.1
  have hl : ∀ k, k < cnt s1 35 → lid c (r + 8) k = lid c1 (r + 8) k := fun k hk => a1.2.2.2.2.2.2.2.2 k (by rw [RP_len hR1]; exact hk)
  refine ⟨KC_trans (by rw [RP_len hR1, RP_len hR, a3]; exact Nat.le_refl _) a1 hKC, KT_trans a2 hKT, ⟨by rw [th_cnt ht (dj_not d2 (by simp))]; exact a3, by rw [th_cnt ht (dj_not d2 (by simp))]; exact a3'⟩, fun k hk => ?_, fun k => by rw [th_A ht (dj_not d3 (by simp))]; exact a5 k, fun y hy z hz => ?_, a7, Nat.lt_of_lt_of_le a8 (hKT.1 48 (by simp))⟩
  · have hc := (RUt_cap hU (show k < cnt s 35 by rw [a3]; exact hk)).2.2.2
    rw [hl k hk] at hc
    rw [ch_R h hc (by decide) (dj_not d1 (by simp))]; exact a4 k hk
  · rw [hrow y (Nat.lt_of_lt_of_le hy (a2.1 65 (by simp))) z hz]; exact a6 y hy z hz
theorem KT_w (h : KT s1 s) (ht : TH [] [] [136] [49] s s') (ho : ∀ k, k ≠ m → tA s' 136 k = tA s 136 k) (hm : cnt s1 48 ≤ m) : KT s1 s' := by
  obtain ⟨h1, h2, h3, h4, h5⟩ := h
  have e : ∀ x, cnt s' x = cnt s x := fun x => th_cnt ht (by simp)
  refine ⟨fun x hx => by rw [e]; exact h1 x hx, fun k hk => ?_, fun v hv => ?_, fun k hk => by rw [th_B ht (by decide)]; exact h4 k hk, fun k hk => by rw [ho k (by omega)]; exact h5 k hk⟩
  · obtain ⟨a1, a2, a3, a4, a5⟩ := h2 k hk
    exact ⟨by rw [th_A ht (by decide)]; exact a1, fun q => by rw [th_A ht (by decide)]; exact a2 q, by rw [th_A ht (by decide)]; exact a3, by rw [th_ca ht (by decide)]; exact a4, fun i hi => by rw [th_A ht (by decide)]; exact a5 i hi⟩
  · obtain ⟨a1, a2, a3, a4⟩ := h3 v hv
    exact ⟨by rw [th_A ht (by decide)]; exact a1, by rw [vI_fr ht (by decide)]; exact a2, by rw [th_A ht (by decide)]; exact a3, by rw [th_B ht (by decide)]; exact a4⟩
/-- an asking is begun: a place in the list -/
theorem P_askA (d : Nat) (hR : RP χ n t r p f vo Op Oa Ou E O c s) (hm : cnt s 48 < 24) :
    ∃ c', cC (d + 9) 9105 [eR (.ref (r + 11)), eR .null] c = some (.inl (some (eI 1)), c') ∧ RP χ n t r p f vo Op (fun k => Oa k ∨ k = cnt s 48) Ou E O c' (tsI s 48 (Int32.ofNat (cnt s 48 + 1))) ∧ aB r c s c' (tsI s 48 (Int32.ofNat (cnt s 48 + 1))) (cnt s 48) ∧ nthD .null (cLs c' (r + 11)) (cnt s 48) = .null ∧ (∀ b, raw c b → raw c' b) ∧ cNx c' ≤ cNx c + 1 ∧ cSl c' ≤ cSl c + 60 ∧ CH [] [] [] [5905] c c' := by
  have h0 := hR
  obtain ⟨hL, hfi, hn, hQ, hN', hOu, hOp, hOa, hOu2⟩ := hR
  obtain ⟨hS, hC, hG, hLm, hM, hU, hV, hI, hF, hA, hB⟩ := hQ
  have ha := RSt_aL hS
  have hlen := hA.2.1
  obtain ⟨c', e2, hLA⟩ := c_add d ha rfl (by rw [hlen]; omega) .null
  obtain ⟨⟨x1, x2, x3, x4⟩, ⟨i1, i2, i3, i4, i5, i6, i7⟩, i8, i9⟩ := id hLA
  have hch : CH [] [] [] [5905] c c' := LA_ch hLA ha
  have hth : TH [48] [] [] [] s (tsI s 48 (Int32.ofNat (cnt s 48 + 1))) := TH_I (by simp) (TH_refl _ _ _ _ s)
  have n48 : tI (tsI s 48 (Int32.ofNat (cnt s 48 + 1))) 48 = Int32.ofNat (cnt s 48 + 1) := by rw [t_I_I, if_pos rfl]
  have c48 := cnt_of n48 (by omega)
  have lN : nthD .null (cLs c' (r + 11)) (cnt s 48) = .null := by rw [i8, ← hlen]; exact lst_end _ _
  have lo : ∀ i, i < cnt s 48 → nthD .null (cLs c' (r + 11)) i = nthD .null (cLs c (r + 11)) i := fun i hi => by rw [i8]; exact lst_lt _ _ _ (by rw [hlen]; exact hi)
  have hKC : KC r c c' := by
    refine ⟨x1, x3, fun b _ => ⟨by rw [i6], by rw [i7]⟩, fun x b _ _ => by rw [i1], fun x b _ _ => by rw [i2], fun x b _ _ _ => by rw [i3], fun b hb _ => i9 b (by rintro rfl; rcases hb with q | q <;> rw [ha] at q <;> exact absurd q (by decide)), ⟨fun b j _ => by rw [i5], fun b i hb hi => ?_, fun b _ q => by rw [i1]; exact q⟩, fun k _ => by unfold lid; rw [i9 (r + 8) (by omega)]⟩
    by_cases q : b = r + 11
    · rw [q] at hi ⊢
      exact ⟨by rw [i8, List.length_append]; omega, fun _ => lo i (by rw [← hlen]; exact hi)⟩
    · rw [i9 b q]; exact ⟨hi, fun _ => rfl⟩
  have hKT : KT s (tsI s 48 (Int32.ofNat (cnt s 48 + 1))) := by
    refine ⟨fun x hx => ?_, fun k _ => ⟨rfl, fun _ => rfl, rfl, Nat.le_refl _, fun _ _ => rfl⟩, fun _ _ => ⟨rfl, rfl, rfl, rfl⟩, fun _ _ => rfl, fun _ _ => rfl⟩
    by_cases q : x = 48
    · rw [q, c48]; omega
    · rw [th_cnt hth (by simpa using q)]; exact Nat.le_refl _
  have haB : aB r c s c' (tsI s 48 (Int32.ofNat (cnt s 48 + 1))) (cnt s 48) := ⟨hKC, hKT, ⟨rfl, rfl⟩, fun k hk => by rw [i3], fun _ => rfl, fun _ _ _ _ => rfl, Nat.le_refl _, by rw [c48]; omega⟩
  refine ⟨c', e2, ⟨LX_ch hch hth (by rw [i4]) (by rw [i5]) (by decide) hL, by rw [th_I hth (by decide)]; exact hfi, cC_cln e2 hn, ⟨RSt_fr hch (by decide) hS, RCt_fr hch hth hS (by decide) hC, RGt_fr hch hth hS (by decide) hG, RLt_fr hch hth hS (by decide) hLm, RMt_fr hch hth hS (by decide) (by decide) hM, RUt_fr hch hth hS (by decide) (by decide) hU, RVt_fr hch hth hS hU (by decide) hV, RIt_fr hch hth hS hV (by decide) hI, RFt_fr hch hth hS hU (by decide) hF, ⟨cok_of n48 (by omega) (by omega), by rw [i8, List.length_append, hlen, c48]; rfl, fun k hk => ?_⟩, aB_RBt h0 haB⟩, RNt_fr hth (by decide) hN', hOu, hOp, fun k hk => ?_, hOu2⟩, haB, lN, LA_raw hLA ha (by decide), x2, by rw [hlen] at x4; omega, hch⟩
  · rw [c48] at hk
    by_cases q : k = cnt s 48
    · rw [q, lN]; exact ⟨fun z => absurd rfl z, fun z => absurd (Or.inr rfl) z, fun _ z => absurd rfl z⟩
    · have hk' : k < cnt s 48 := by omega
      obtain ⟨g, o, v⟩ := hA.2.2 k hk'
      rw [lo k hk', lid_eq (lo k hk'), i1, i2, i3, i6]
      refine ⟨fun z => ?_, fun z => o (fun w => z (Or.inl w)), fun z z2 => v (by rcases z with w | w; exact w; exact absurd w q) z2⟩
      obtain ⟨e1, e2, e3, e4, R, P, w1, w2, w3, w4, w5, w6⟩ := g z
      exact ⟨e1, e2, e3, e4, R, P, w1, w2, w3, w4, pOK_ix hch (by decide) (by decide) ⟨rfl, rfl, fun _ _ => rfl⟩ w5, w6⟩
  · rw [c48]
    rcases hk with q | q
    · have := hOa k q; omega
    · omega
/-- the asking's own words -/
theorem P_ask136 {Oa' : Nat → Prop} (hR1 : RP χ n t r p1 f1 vo1 Op1 Oa1 Ou E O1 c1 s1) (hR : RP χ n t r p f vo Op Oa Ou E O c s) (hA : aB r c1 s1 c s m) (ht : TH [] [] [136] [49] s s') (hk : ∀ k, k ≠ m → tA s' 136 k = tA s 136 k ∧ tB s' 49 k = tB s 49 k) (hO1 : ∀ k, ¬ Oa' k → ¬ Oa k ∧ k ≠ m) (hO2 : ∀ k, Oa' k → k < cnt s 48) (hnull : nthD .null (cLs c (r + 11)) m = .null ∨ tB s' 49 m = tB s 49 m) (hO3 : ∀ k, Oa' k → Oa k ∨ nthD .null (cLs c (r + 11)) k = .null ∨ cR c 2903 (lid c (r + 11) k) = .null) :
    RP χ n t r p f vo Op Oa' Ou E O c s' ∧ aB r c1 s1 c s' m := by
  obtain ⟨a1, a2, a3, a4, a5, a6, a7, a8⟩ := hA
  have e : ∀ x, cnt s' x = cnt s x := fun x => th_cnt ht (by simp)
  have haB : aB r c1 s1 c s' m := ⟨a1, KT_w a2 ht (fun k q => (hk k q).1) a7, by rw [e, e]; exact a3, a4, fun k => by rw [th_A ht (by decide)]; exact a5 k, fun y hy z hz => by rw [th_A ht (by simp only [List.mem_cons, List.not_mem_nil, or_false] at hz ⊢; omega)]; exact a6 y hy z hz, a7, by rw [e]; exact a8⟩
  have hch := CH_refl [] [] [] [] c
  obtain ⟨hL, hfi, hn, hQ, hN', hOu, hOp, hOa, hOu2⟩ := hR
  obtain ⟨hS, hC, hG, hLm, hM, hU, hV, hI, hF, hAt, hB⟩ := hQ
  refine ⟨⟨LX_ch hch ht rfl rfl (by decide) hL, by rw [th_I ht (by decide)]; exact hfi, hn, ⟨hS, RCt_fr hch ht hS (by decide) hC, RGt_fr hch ht hS (by decide) hG, RLt_fr hch ht hS (by decide) hLm, RMt_fr hch ht hS (by decide) (by decide) hM, RUt_fr hch ht hS (by decide) (by decide) hU, RVt_fr hch ht hS hU (by decide) hV, RIt_fr hch ht hS hV (by decide) hI, RFt_fr hch ht hS hU (by decide) hF, ⟨by rw [th_cok ht (by decide)]; exact hAt.1, by rw [e]; exact hAt.2.1, fun k hk' => ?_⟩, aB_RBt hR1 haB⟩, RNt_fr ht (by decide) hN', by rw [e]; exact hOu, fun y hy => by rw [th_ca ht (by decide), e]; exact hOp y hy, fun k q => by rw [e]; exact hO2 k q, fun k q => by rw [e]; exact hOu2 k q⟩, haB⟩
  rw [e] at hk'
  obtain ⟨g, o, v⟩ := hAt.2.2 k hk'
  refine ⟨fun z => ?_, fun z => ?_, fun z z2 => by
    rcases hO3 k z with w | w | w
    · exact v w z2
    · exact absurd w z2
    · exact w⟩
  · obtain ⟨e1, e2, e3, e4, R, P, w1, w2, w3, w4, w5, w6⟩ := g z
    have h49 : tB s' 49 k = tB s 49 k := by
      by_cases q : k = m
      · rcases hnull with w | w
        · rw [q, w] at z; exact absurd rfl z
        · rw [q]; exact w
      · exact (hk k q).2
    exact ⟨e1, e2, e3, e4, R, P, w1, w2, by rw [h49]; exact w3, w4, pOK_fr hch ht (by decide) (by decide) (by decide) (by decide) w5, by rw [th_A ht (by decide)]; exact w6⟩
  · obtain ⟨z1, z2⟩ := hO1 k z
    rw [(hk k z2).1]
    exact o z1
end
