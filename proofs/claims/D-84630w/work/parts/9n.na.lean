set_option maxRecDepth 100000
set_option maxHeartbeats 4000000
/-! D63: names: found or kept -/
section
variable {χ : Nat → Int32} {n t r p f : Nat} {vo : Nat → Nat} {Op Oa Ou : Nat → Prop} {E O : Nat} {c : cS} {s : tS}
theorem nam_loop (d e : Nat) {a b : Int64} (hab : nm a b) (hS : RSt r c) (h60 : cok s 60 400) (hlen : (cLs c (r + 14)).length = cnt s 60) (hk : ∀ k, k < cnt s 60 → ∃ a : Int64, nthD .null (cLs c (r + 14)) k = .double a.toUInt64 ∧ nm a (tB s 61 k)) :
    ∀ m k, k + m = cnt s 60 → (∃ j, j < cnt s 60 ∧ tB s 61 j = b ∧ fX9_nameOf_2 (cC (d + 9)) (.ref (r + 1)) a (Int32.ofNat k) c = some (.inl (some (eI (Int32.ofNat j))), c) ∧ fX7_nameOf_2 (cT e) b (Int32.ofNat k) s = some (.inl (some (eI (Int32.ofNat j))), s)) ∨
      (fX9_nameOf_2 (cC (d + 9)) (.ref (r + 1)) a (Int32.ofNat k) c = fX9_nameOf_2 (cC (d + 9)) (.ref (r + 1)) a (Int32.ofNat (cnt s 60)) c ∧ fX7_nameOf_2 (cT e) b (Int32.ofNat k) s = fX7_nameOf_2 (cT e) b (Int32.ofNat (cnt s 60)) s) := by
  have hb := h60.2
  have h907 : cR c 907 (r + 1) = .ref (r + 14) := hS.2.2.2.2.2.1.2.2.2.2.2.2.2
  have h9 := hS.2.2.2.2.1
  intro m
  induction m with
  | zero =>
    intro k hk'
    have : k = cnt s 60 := by omega
    rw [this]
    exact Or.inr ⟨rfl, rfl⟩
  | succ m ih =>
    intro k hk'
    have hlt : k < cnt s 60 := by omega
    obtain ⟨a', ha', hnm⟩ := hk k hlt
    have eC : fX9_nameOf_2 (cC (d + 9)) (.ref (r + 1)) a (Int32.ofNat k) c = if a' = a then some (.inl (some (eI (Int32.ofNat k))), c) else fX9_nameOf_2 (cC (d + 9)) (.ref (r + 1)) a (Int32.ofNat k + 1) c := by
      rw [uX9_nameOf_2, r_cgR, if_pos h9, h907, c_len d (RSt_naL hS) rfl, b_I, hlen]
      simp only [z_lt (show k < 2147483648 by omega) (show cnt s 60 < 2147483648 by omega), hlt, if_true]
      rw [r_cgR, if_pos h9, h907, c_get d (RSt_naL hS) rfl (by rw [hlen]; exact hlt) (by omega), b_R, ha', r_castD, pq_unL]
      show (if lg_cmp a' a = 0 then _ else _) = _
      simp only [lg_cmp_eq]
    have eT : fX7_nameOf_2 (cT e) b (Int32.ofNat k) s = if tB s 61 k = b then some (.inl (some (eI (Int32.ofNat k))), s) else fX7_nameOf_2 (cT e) b (Int32.ofNat k + 1) s := by
      rw [uX7_nameOf_2, h60.1]
      simp only [z_lt (show k < 2147483648 by omega) (show cnt s 60 < 2147483648 by omega), hlt, if_true]
      rw [q_61 (by omega)]
      simp only [lg_cmp_eq]
    have eadd : Int32.ofNat k + 1 = Int32.ofNat (k + 1) := by rw [show (1 : Int32) = Int32.ofNat 1 from rfl, z_add]
    rw [eC, eT, eadd]
    have hiff := nm_eq hnm hab
    by_cases q : tB s 61 k = b
    · left
      exact ⟨k, hlt, q, if_pos (hiff.2 q), if_pos q⟩
    · rw [if_neg (fun w => q (hiff.1 w)), if_neg q]
      exact ih (k + 1) (by omega)
theorem P_nam (d e : Nat) {a b : Int64} (hab : nm a b) (h : RP χ n t r p f vo Op Oa Ou E O c s) (hlt : cnt s 60 + 1 ≤ cnt s 62) :
    ∃ c' s' k, cC (d + 10) 904 [eR (.ref (r + 1)), eL a] c = some (.inl (some (eI (Int32.ofNat k))), c') ∧ cT (e + 1) 75 [eR (.ref 0), eL b] s = some (.inl (some (eI (Int32.ofNat k))), s') ∧ RP χ n t r p f vo Op Oa Ou E O c' s' ∧ KC r c c' ∧ KT s s' ∧ TH [60] [] [] [61] s s' ∧ (∀ b, raw c b → raw c' b) ∧ cNx c' ≤ cNx c + 2 ∧ cSl c' ≤ cSl c + 1000 ∧ k < cnt s' 60 ∧ k ≤ 399 ∧ tB s' 61 k = b := by
  have hCt := h.2.2.2.1.2.1
  have hS0 := h.2.2.2.1.1
  have h62 := hCt.1.1.2
  obtain ⟨h60, h60a, hlen, hk⟩ := hCt.2.2.2.1
  have e0 : Int32.ofNat 0 = (0 : Int32) := rfl
  rcases nam_loop d e hab hS0 h60 hlen hk (cnt s 60) 0 (by omega) with ⟨j, j1, j2, j3, j4⟩ | ⟨j3, j4⟩
  · rw [e0] at j3 j4
    refine ⟨c, s, j, ?_, ?_, h, KC_refl r c, KT_refl s, TH_refl _ _ _ _ s, fun _ q => q, by omega, by omega, j1, by omega, j2⟩
    · rw [kX9_nameOf, r_cck, if_pos hS0.2.2.2.2.1, uX9_nameOf]; exact j3
    · rw [kX7_nameOf, uX7_nameOf]; exact j4
  · rw [e0] at j3 j4
    obtain ⟨c1, hbox, hfr, hnf, hcl1, nx1, sl1⟩ : ∃ c1, cC (d + 9) 9112 [eL a] c = some (.inl (some (eR (.double a.toUInt64))), c1) ∧ FR c c1 ∧ NF c c1 ∧ CLN c1 ∧ cNx c1 ≤ cNx c + 1 ∧ cSl c1 ≤ cSl c + 1 := by
      rw [pq_boxL]; unfold cboxL
      by_cases q : -128 ≤ a ∧ a ≤ 127
      · rw [if_pos q]; exact ⟨c, rfl, FR_refl c, NF_refl c, h.2.2.1, by omega, by omega⟩
      · rw [if_neg q]; exact ⟨cmore c 1, rfl, FR_more (FR_refl c), NF_refl c, CLN_more h.2.2.1, Nat.le_refl _, Nat.le_refl _⟩
    have hR1 := RP_FR hfr hnf hcl1 h
    obtain ⟨hL, hfi, hn, hQ, hN, hOu, hOp, hOa, hOu2⟩ := hR1
    obtain ⟨hS, hC, hG, hLm, hM, hU, hV, hI, hF, hA, hB⟩ := hQ
    obtain ⟨q1, q2, q4, ⟨q3, q3a, q3b, q3c⟩, q5⟩ := hC
    obtain ⟨c', e2, hLA⟩ := c_add d (RSt_naL hS) rfl (by rw [q3b]; omega) (.double a.toUInt64)
    have hch := LA_ch hLA (RSt_naL hS)
    have e60 : tI (tsI (tsB s 61 (cnt s 60) b) 60 (tI s 60 + 1)) 60 = Int32.ofNat (cnt s 60 + 1) := (cnt_up q3 (by decide)).2
    have c60 := cnt_of e60 (by omega)
    have hth : TH [60] [] [] [61] s (tsI (tsB s 61 (cnt s 60) b) 60 (tI s 60 + 1)) := TH_I (by simp) (TH_B (by simp) (TH_refl _ _ _ _ s))
    have hrunC : cC (d + 10) 904 [eR (.ref (r + 1)), eL a] c = some (.inl (some (eI (Int32.ofNat (cnt s 60)))), c') := by
      rw [kX9_nameOf, r_cck, if_pos hS0.2.2.2.2.1, uX9_nameOf, j3, uX9_nameOf_2, r_cgR, if_pos hS0.2.2.2.2.1, hS0.2.2.2.2.2.1.2.2.2.2.2.2.2, c_len d (RSt_naL hS0) rfl, b_I, hlen]
      simp only [z_lt (show cnt s 60 < 2147483648 by omega) (show cnt s 60 < 2147483648 by omega), Nat.lt_irrefl, if_false]
      have hS' := RSt_fr hch (by decide) hS
      rw [r_cgR, if_pos hS0.2.2.2.2.1, hS0.2.2.2.2.2.1.2.2.2.2.2.2.2, hbox, b_R, e2, b_I, r_cgR, if_pos hS'.2.2.2.2.1, hS'.2.2.2.2.2.1.2.2.2.2.2.2.2, c_len d (RSt_naL hS') rfl, b_I, hLA.2.2.1, List.length_append, q3b, show (1 : Int32) = Int32.ofNat 1 from rfl, z_sub (by simp)]
      rfl
    have hrunT : cT (e + 1) 75 [eR (.ref 0), eL b] s = some (.inl (some (eI (Int32.ofNat (cnt s 60)))), tsI (tsB s 61 (cnt s 60) b) 60 (tI s 60 + 1)) := by
      have hirr : ¬ (Int32.ofNat (cnt s 60) < tI s 60) := by rw [q3.1, z_lt (show cnt s 60 < 2147483648 by omega) (show cnt s 60 < 2147483648 by omega)]; omega
      rw [kX7_nameOf, uX7_nameOf, j4, uX7_nameOf_2, if_neg hirr]
      have e3 : tsaL s 61 (tI s 60) b (fun h1 => tpI h1 60 ((tI h1 60) + 1) fun h2 => some (.inl (some (eI ((tI h2 60) - 1))), h2)) = some (.inl (some (eI (Int32.ofNat (cnt s 60)))), tsI (tsB s 61 (cnt s 60) b) 60 (tI s 60 + 1)) := by
        rw [q3.1, qs_61 (by omega), r_tpI]
        have : tI (tsI (tsB s 61 (cnt s 60) b) 60 (tI (tsB s 61 (cnt s 60) b) 60 + 1)) 60 = Int32.ofNat (cnt s 60 + 1) := e60
        rw [this, show (1 : Int32) = Int32.ofNat 1 from rfl, z_sub (by omega)]
        have : tI (tsB s 61 (cnt s 60) b) 60 = tI s 60 := rfl
        rw [this, q3.1]
        rfl
      exact e3
    have hKC : KC r c c' := KC_trans (by rw [RP_len h, hU.2.1.1]; exact Nat.le_refl _) (FR_kc hfr hnf hS0) (KC_of hch hS hLA.1.2.2.1 (by decide))
    have o61 : ∀ i, i ≠ cnt s 60 → tB (tsI (tsB s 61 (cnt s 60) b) 60 (tI s 60 + 1)) 61 i = tB s 61 i := fun i hi => by
      show tB (tsB s 61 (cnt s 60) b) 61 i = _
      rw [t_B_B, if_neg (fun q => hi q.2)]
    have n61 : tB (tsI (tsB s 61 (cnt s 60) b) 60 (tI s 60 + 1)) 61 (cnt s 60) = b := by
      show tB (tsB s 61 (cnt s 60) b) 61 (cnt s 60) = _
      rw [t_B_B, if_pos ⟨rfl, rfl⟩]
    have hKT : KT s (tsI (tsB s 61 (cnt s 60) b) 60 (tI s 60 + 1)) := ⟨fun x hx => by
      by_cases q : x = 60
      · rw [q, c60]; omega
      · rw [th_cnt hth (by simpa using q)]; exact Nat.le_refl _, fun _ _ => ⟨rfl, fun _ => rfl, rfl, Nat.le_refl _, fun _ _ => rfl⟩, fun v _ => ⟨rfl, rfl, rfl, th_B hth (by decide) v⟩, fun k hk' => o61 k (by omega), fun _ _ => rfl⟩
    have hKC1 : KC r c1 c' := KC_of hch hS hLA.1.2.2.1 (by decide)
    have hn' : CLN c' := cC_cln hrunC h.2.2.1
    refine ⟨c', _, cnt s 60, hrunC, hrunT, ⟨LX_ch hch hth (by rw [hLA.2.1.2.2.2.1]) (by rw [hLA.2.1.2.2.2.2.1]) (by decide) hL, hfi, hn', ⟨RSt_fr hch (by decide) hS, ⟨⟨q1.1, ?_⟩, ⟨q2.1, ?_⟩, ?_, ⟨cok_of e60 (by omega) (by omega), by rw [c60]; exact hlt, by rw [hLA.2.2.1, c60, List.length_append, q3b]; rfl, fun k hk' => ?_⟩, q5⟩, RGt_fr hch hth hS (by decide) hG, RLt_fr hch hth hS (by decide) hLm, RMt_fr hch hth hS (by decide) (by decide) hM, RUt_fr hch hth hS (by decide) (by decide) hU, RVt_fr hch hth hS hU (by decide) hV, RIt_fr hch hth hS hV (by decide) hI, ?_, RAt_fr hch hth hS (by decide) hA, ?_⟩, RNt_fr hth (by decide) hN, hOu, hOp, hOa, hOu2⟩, hKC, hKT, hth, fun b q => LA_raw hLA (RSt_naL hS) (by decide) b (FR_raw hfr hnf b q), by have := hLA.1.2.1; omega, by have := hLA.1.2.2.2; rw [q3b] at this; omega, by rw [c60]; omega, by omega, n61⟩
    · rw [hLA.2.1.1]; exact q1.2
    · rw [hLA.2.1.1]; exact q2.2
    · have e13 : cLs c' (r + 13) = cLs c1 (r + 13) := hLA.2.2.2 (r + 13) (by omega)
      rw [e13]; exact q4
    · rw [c60] at hk'
      rw [hLA.2.2.1]
      by_cases w : k = cnt s 60
      · rw [w, n61, ← q3b, lst_end]; exact ⟨a, rfl, hab⟩
      · rw [lst_lt _ _ _ (by rw [q3b]; omega), o61 k w]; exact q3c k (by omega)
    · -- the sends tell of names
      obtain ⟨f1, f2⟩ := hF
      obtain ⟨_, ⟨eI1, eL1, eR1, eA1, eA2, eC1, eN1⟩, _, eLs⟩ := id hLA
      have hl : ∀ L i, L ≠ r + 14 → lid c' L i = lid c1 L i := fun L i hL' => by unfold lid; rw [eLs L hL']
      have hcl14 := RSt_naL hS
      refine ⟨f1, fun k hk' => ?_⟩
      have g := RUt_cap hU hk'
      obtain ⟨w1, w2, w3, w4, w5, w6, w7, w8, w9, ⟨K, w10, ⟨X, hX, w11⟩, w12⟩, K2, w13, ⟨X2, hX2, w14⟩, w15⟩ := f2 k hk'
      have n8 : lid c' (r + 8) k = lid c1 (r + 8) k := hl _ _ (by omega)
      have n3 : ∀ i, lid c' (lid c1 (r + 8) k + 3) i = lid c1 (lid c1 (r + 8) k + 3) i := fun i => hl _ i (by intro q; rw [q, hcl14] at g; exact absurd g.2.1 (by decide))
      have n5 : ∀ i, lid c' (lid c1 (r + 8) k + 5) i = lid c1 (lid c1 (r + 8) k + 5) i := fun i => hl _ i (by intro q; rw [q, hcl14] at g; exact absurd g.2.2.1 (by decide))
      have nl : ∀ L, cCl c1 L = 5891 → cLs c' L = cLs c1 L := fun L q => eLs L (by rintro rfl; rw [hcl14] at q; exact absurd q (by decide))
      have n60 : cnt s 60 ≤ cnt (tsI (tsB s 61 (cnt s 60) b) 60 (tI s 60 + 1)) 60 := by rw [c60]; omega
      rw [n8, eI1]
      refine ⟨w1, w2, w3, w4, w5, w6, w7, w8, w9, ⟨K, lsr_fr hch g.2.1 (by decide) (by decide) (by decide) w10, ⟨X, hX, fun i hi => ?_⟩, fun x x1 x2 x3 x4 => ?_⟩, K2, lsr_fr hch g.2.2.1 (by decide) (by decide) (by decide) w13, ⟨X2, hX2, fun i hi => ?_⟩, fun x x1 x2 x3 x4 => ?_⟩
      · obtain ⟨x1, x2, x3, x4, x5, x6, x7, L, x8, x9, x10⟩ := w11 i hi
        rw [n3, eL1, eR1, eC1]
        exact ⟨x1, x2, x3, x4, Nat.lt_of_lt_of_le x5 n60, by rw [o61 _ (by have e : ca (tsI (tsB s 61 (cnt s 60) b) 60 (tI s 60 + 1)) 68 (X i) = ca s 68 (X i) := rfl; rw [e]; omega)]; exact x6, x7, L, x8, x9, by rw [nl L x9]; exact x10⟩
      · obtain ⟨i, hi, x5, x6, x7, L, x8, x9, x10⟩ := w12 x x1 x2 x3 x4
        refine ⟨i, hi, ?_⟩
        rw [n3, eL1, eR1, eC1]
        exact ⟨Nat.lt_of_lt_of_le x5 n60, by rw [o61 _ (by have e : ca (tsI (tsB s 61 (cnt s 60) b) 60 (tI s 60 + 1)) 68 x = ca s 68 x := rfl; rw [e]; omega)]; exact x6, x7, L, x8, x9, by rw [nl L x9]; exact x10⟩
      · obtain ⟨x, x1, x2, x3, x4, x5, x6, x7⟩ := w14 i hi
        refine ⟨x, x1, x2, x3, x4, x5, x6, ?_⟩
        rw [n5]
        have : lid c' (r + 8) (X2 i) = lid c1 (r + 8) (X2 i) := hl _ _ (by omega)
        rw [this]; exact x7
      · obtain ⟨x5, x6, x7, x8, x9⟩ := w15 x x1 x2 x3 x4
        refine ⟨x5, x6, x7, x8, fun w => ?_⟩
        obtain ⟨i, i1, i2⟩ := x9 w
        refine ⟨i, i1, ?_⟩
        rw [n5]
        have : lid c' (r + 8) (ca (tsI (tsB s 61 (cnt s 60) b) 60 (tI s 60 + 1)) 68 x) = lid c1 (r + 8) (ca s 68 x) := hl _ _ (by omega)
        rw [this]; exact i2
    · exact RBt_mono hKC1 hKT hU.2.1.1 (fun v hv => (hV.2.1 v hv).2.2.1) rfl (Nat.le_refl _) (fun k hk _ => by rw [hLA.2.1.2.2.1]) (fun k _ _ => rfl) (fun y _ _ z hz => rfl) hB
end
