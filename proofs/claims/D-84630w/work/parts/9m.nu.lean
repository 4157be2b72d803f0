set_option maxRecDepth 100000
set_option maxHeartbeats 4000000
/-! D62: numbers, names: found or kept -/
section
variable {χ : Nat → Int32} {n t r p f : Nat} {vo : Nat → Nat} {Op Oa Ou : Nat → Prop} {E O : Nat} {c : cS} {s : tS}
theorem num_loop (d e : Nat) (v : Int32) (hS : RSt r c) (h58 : cok s 58 400) (hlen : (cLs c (r + 13)).length = cnt s 58) (hk : ∀ k, k < cnt s 58 → nthD .null (cLs c (r + 13)) k = .float (tA s 59 k).toUInt32) :
    ∀ m k, k + m = cnt s 58 → (∃ j, j < cnt s 58 ∧ tA s 59 j = v ∧ fX9_numberOf_2 (cC (d + 9)) (.ref (r + 1)) v (Int32.ofNat k) c = some (.inl (some (eI (Int32.ofNat j))), c) ∧ fX7_numberOf_2 (cT e) v (Int32.ofNat k) s = some (.inl (some (eI (Int32.ofNat j))), s)) ∨
      (fX9_numberOf_2 (cC (d + 9)) (.ref (r + 1)) v (Int32.ofNat k) c = fX9_numberOf_2 (cC (d + 9)) (.ref (r + 1)) v (Int32.ofNat (cnt s 58)) c ∧ fX7_numberOf_2 (cT e) v (Int32.ofNat k) s = fX7_numberOf_2 (cT e) v (Int32.ofNat (cnt s 58)) s) := by
  have hb := h58.2
  have h906 : cR c 906 (r + 1) = .ref (r + 13) := hS.2.2.2.2.2.1.2.2.2.2.2.2.1
  have h9 := hS.2.2.2.2.1
  intro m
  induction m with
  | zero =>
    intro k hk'
    have : k = cnt s 58 := by omega
    rw [this]
    exact Or.inr ⟨rfl, rfl⟩
  | succ m ih =>
    intro k hk'
    have hlt : k < cnt s 58 := by omega
    have eC : fX9_numberOf_2 (cC (d + 9)) (.ref (r + 1)) v (Int32.ofNat k) c = if tA s 59 k = v then some (.inl (some (eI (Int32.ofNat k))), c) else fX9_numberOf_2 (cC (d + 9)) (.ref (r + 1)) v (Int32.ofNat k + 1) c := by
      rw [uX9_numberOf_2, r_cgR, if_pos h9, h906, c_len d (RSt_nL hS) rfl, b_I, hlen]
      simp only [z_lt (show k < 2147483648 by omega) (show cnt s 58 < 2147483648 by omega), hlt, if_true]
      rw [r_cgR, if_pos h9, h906, c_get d (RSt_nL hS) rfl (by rw [hlen]; exact hlt) (by omega), b_R, hk k hlt, r_castF, pq_unI]
      rfl
    have eT : fX7_numberOf_2 (cT e) v (Int32.ofNat k) s = if tA s 59 k = v then some (.inl (some (eI (Int32.ofNat k))), s) else fX7_numberOf_2 (cT e) v (Int32.ofNat k + 1) s := by
      rw [uX7_numberOf_2, h58.1]
      simp only [z_lt (show k < 2147483648 by omega) (show cnt s 58 < 2147483648 by omega), hlt, if_true]
      rw [q_59 (by omega)]
    have eadd : Int32.ofNat k + 1 = Int32.ofNat (k + 1) := by rw [show (1 : Int32) = Int32.ofNat 1 from rfl, z_add]
    rw [eC, eT, eadd]
    by_cases q : tA s 59 k = v
    · left
      exact ⟨k, hlt, q, if_pos q, if_pos q⟩
    · rw [if_neg q, if_neg q]
      exact ih (k + 1) (by omega)
theorem P_num (d e : Nat) (v : Int32) (h : RP χ n t r p f vo Op Oa Ou E O c s) (hlt : cnt s 58 + 1 ≤ cnt s 62) :
    ∃ c' s' k, cC (d + 10) 903 [eR (.ref (r + 1)), eI v] c = some (.inl (some (eI (Int32.ofNat k))), c') ∧ cT (e + 1) 64 [eR (.ref 0), eI v] s = some (.inl (some (eI (Int32.ofNat k))), s') ∧ RP χ n t r p f vo Op Oa Ou E O c' s' ∧ KC r c c' ∧ KT s s' ∧ TH [58] [] [59] [] s s' ∧ (∀ b, raw c b → raw c' b) ∧ cNx c' ≤ cNx c + 2 ∧ cSl c' ≤ cSl c + 1000 ∧ k < cnt s' 58 ∧ k ≤ 399 := by
  have hCt := h.2.2.2.1.2.1
  have hS0 := h.2.2.2.1.1
  have h62 := hCt.1.1.2
  obtain ⟨h58, h58a, hlen, hk⟩ := hCt.2.2.1
  have e0 : Int32.ofNat 0 = (0 : Int32) := rfl
  rcases num_loop d e v hS0 h58 hlen hk (cnt s 58) 0 (by omega) with ⟨j, j1, j2, j3, j4⟩ | ⟨j3, j4⟩
  · rw [e0] at j3 j4
    refine ⟨c, s, j, ?_, ?_, h, KC_refl r c, KT_refl s, TH_refl _ _ _ _ s, fun _ q => q, by omega, by omega, j1, by omega⟩
    · rw [kX9_numberOf, r_cck, if_pos hS0.2.2.2.2.1, uX9_numberOf]; exact j3
    · rw [kX7_numberOf, uX7_numberOf]; exact j4
  · rw [e0] at j3 j4
    obtain ⟨c1, hbox, hfr, hnf, hcl1, nx1, sl1⟩ : ∃ c1, cC (d + 9) 9110 [eI v] c = some (.inl (some (eR (.float v.toUInt32))), c1) ∧ FR c c1 ∧ NF c c1 ∧ CLN c1 ∧ cNx c1 ≤ cNx c + 1 ∧ cSl c1 ≤ cSl c + 1 := by
      rw [pq_boxI]; unfold cboxI
      by_cases q : -128 ≤ v ∧ v ≤ 127
      · rw [if_pos q]; exact ⟨c, rfl, FR_refl c, NF_refl c, h.2.2.1, by omega, by omega⟩
      · rw [if_neg q]; exact ⟨cmore c 1, rfl, FR_more (FR_refl c), NF_refl c, CLN_more h.2.2.1, Nat.le_refl _, Nat.le_refl _⟩
    have hR1 := RP_FR hfr hnf hcl1 h
    obtain ⟨hL, hfi, hn, hQ, hN, hOu, hOp, hOa, hOu2⟩ := hR1
    obtain ⟨hS, hC, hG, hLm, hM, hU, hV, hI, hF, hA, hB⟩ := hQ
    obtain ⟨q1, q2, ⟨q3, q3a, q3b, q3c⟩, q4, q5⟩ := hC
    obtain ⟨c', e2, hLA⟩ := c_add d (RSt_nL hS) rfl (by rw [q3b]; omega) (.float v.toUInt32)
    have hch := LA_ch hLA (RSt_nL hS)
    have e58 : tI (tsI (tsA s 59 (cnt s 58) v) 58 (tI s 58 + 1)) 58 = Int32.ofNat (cnt s 58 + 1) := (cnt_up q3 (by decide)).2
    have c58 := cnt_of e58 (by omega)
    have hth : TH [58] [] [59] [] s (tsI (tsA s 59 (cnt s 58) v) 58 (tI s 58 + 1)) := TH_I (by simp) (TH_A (by simp) (TH_refl _ _ _ _ s))
    have hrunC : cC (d + 10) 903 [eR (.ref (r + 1)), eI v] c = some (.inl (some (eI (Int32.ofNat (cnt s 58)))), c') := by
      rw [kX9_numberOf, r_cck, if_pos hS0.2.2.2.2.1, uX9_numberOf, j3, uX9_numberOf_2, r_cgR, if_pos hS0.2.2.2.2.1, hS0.2.2.2.2.2.1.2.2.2.2.2.2.1, c_len d (RSt_nL hS0) rfl, b_I, hlen]
      simp only [z_lt (show cnt s 58 < 2147483648 by omega) (show cnt s 58 < 2147483648 by omega), Nat.lt_irrefl, if_false]
      have hS' := RSt_fr hch (by decide) hS
      rw [r_cgR, if_pos hS0.2.2.2.2.1, hS0.2.2.2.2.2.1.2.2.2.2.2.2.1, hbox, b_R, e2, b_I, r_cgR, if_pos hS'.2.2.2.2.1, hS'.2.2.2.2.2.1.2.2.2.2.2.2.1, c_len d (RSt_nL hS') rfl, b_I, hLA.2.2.1, List.length_append, q3b, show (1 : Int32) = Int32.ofNat 1 from rfl, z_sub (by simp)]
      rfl
    have hrunT : cT (e + 1) 64 [eR (.ref 0), eI v] s = some (.inl (some (eI (Int32.ofNat (cnt s 58)))), tsI (tsA s 59 (cnt s 58) v) 58 (tI s 58 + 1)) := by
      have hirr : ¬ (Int32.ofNat (cnt s 58) < tI s 58) := by rw [q3.1, z_lt (show cnt s 58 < 2147483648 by omega) (show cnt s 58 < 2147483648 by omega)]; omega
      rw [kX7_numberOf, uX7_numberOf, j4, uX7_numberOf_2, if_neg hirr]
      have e3 : tsaI s 59 (tI s 58) v (fun h1 => tpI h1 58 ((tI h1 58) + 1) fun h2 => some (.inl (some (eI ((tI h2 58) - 1))), h2)) = some (.inl (some (eI (Int32.ofNat (cnt s 58)))), tsI (tsA s 59 (cnt s 58) v) 58 (tI s 58 + 1)) := by
        rw [q3.1, qs_59 (by omega), r_tpI]
        have : tI (tsI (tsA s 59 (cnt s 58) v) 58 (tI (tsA s 59 (cnt s 58) v) 58 + 1)) 58 = Int32.ofNat (cnt s 58 + 1) := e58
        rw [this, show (1 : Int32) = Int32.ofNat 1 from rfl, z_sub (by omega)]
        have : tI (tsA s 59 (cnt s 58) v) 58 = tI s 58 := rfl
        rw [this, q3.1]
        rfl
      exact e3
    have hKC : KC r c c' := KC_trans (by rw [RP_len h, hU.2.1.1]; exact Nat.le_refl _) (FR_kc hfr hnf hS0) (KC_of hch hS hLA.1.2.2.1 (by decide))
    have hKT : KT s (tsI (tsA s 59 (cnt s 58) v) 58 (tI s 58 + 1)) := ⟨fun x hx => by
      by_cases q : x = 58
      · rw [q, c58]; omega
      · rw [th_cnt hth (by simpa using q)]; exact Nat.le_refl _, fun _ _ => ⟨rfl, fun _ => rfl, rfl, Nat.le_refl _, fun _ _ => rfl⟩, fun _ _ => ⟨rfl, rfl, rfl, rfl⟩, fun _ _ => rfl, fun _ _ => rfl⟩
    have hKC1 : KC r c1 c' := KC_of hch hS hLA.1.2.2.1 (by decide)
    have hn' : CLN c' := cC_cln hrunC h.2.2.1
    have o59 : ∀ i, i ≠ cnt s 58 → tA (tsI (tsA s 59 (cnt s 58) v) 58 (tI s 58 + 1)) 59 i = tA s 59 i := fun i hi => by
      show tA (tsA s 59 (cnt s 58) v) 59 i = _
      rw [t_A_A, if_neg (fun q => hi q.2)]
    have n59 : tA (tsI (tsA s 59 (cnt s 58) v) 58 (tI s 58 + 1)) 59 (cnt s 58) = v := by
      show tA (tsA s 59 (cnt s 58) v) 59 (cnt s 58) = _
      rw [t_A_A, if_pos ⟨rfl, rfl⟩]
    refine ⟨c', _, cnt s 58, hrunC, hrunT, ⟨LX_ch hch hth (by rw [hLA.2.1.2.2.2.1]) (by rw [hLA.2.1.2.2.2.2.1]) (by decide) hL, hfi, hn', ⟨RSt_fr hch (by decide) hS, ⟨⟨q1.1, ?_⟩, ⟨q2.1, ?_⟩, ⟨cok_of e58 (by omega) (by omega), by rw [c58]; exact hlt, by rw [hLA.2.2.1, c58, List.length_append, q3b]; rfl, fun k hk' => ?_⟩, ?_, q5⟩, RGt_fr hch hth hS (by decide) hG, RLt_fr hch hth hS (by decide) hLm, RMt_fr hch hth hS (by decide) (by decide) hM, RUt_fr hch hth hS (by decide) (by decide) hU, RVt_fr hch hth hS hU (by decide) hV, RIt_fr hch hth hS hV (by decide) hI, RFt_fr hch hth hS hU (by decide) hF, RAt_fr hch hth hS (by decide) hA, ?_⟩, RNt_fr hth (by decide) hN, hOu, hOp, hOa, hOu2⟩, hKC, hKT, hth, fun b q => LA_raw hLA (RSt_nL hS) (by decide) b (FR_raw hfr hnf b q), by have := hLA.1.2.1; omega, by have := hLA.1.2.2.2; rw [q3b] at this; omega, by rw [c58]; omega, by omega⟩
    · rw [hLA.2.1.1]; exact q1.2
    · rw [hLA.2.1.1]; exact q2.2
    · rw [c58] at hk'
      rw [hLA.2.2.1]
      by_cases w : k = cnt s 58
      · rw [w, n59, ← q3b, lst_end]
      · rw [lst_lt _ _ _ (by rw [q3b]; omega), o59 k w]; exact q3c k (by omega)
    · have e14 : cLs c' (r + 14) = cLs c1 (r + 14) := hLA.2.2.2 (r + 14) (by omega)
      rw [e14]; exact q4
    · exact RBt_mono hKC1 hKT hU.2.1.1 (fun v hv => (hV.2.1 v hv).2.2.1) rfl (Nat.le_refl _) (fun k hk _ => by rw [hLA.2.1.2.2.1]) (fun k _ _ => rfl) (fun y _ _ z hz => th_A hth (by simp only [List.mem_cons, List.not_mem_nil, or_false] at hz ⊢; omega) y) hB
end
