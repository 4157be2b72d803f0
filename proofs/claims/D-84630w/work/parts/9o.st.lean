set_option maxRecDepth 100000
set_option maxHeartbeats 4000000
/-! D64: a node begun behind other steps; the atom of a number -/
section
variable {χ : Nat → Int32} {n t r : Nat} {Oa Ou : Nat → Prop} {O : Nat}
variable {f0 p0 : Nat} {vo0 : Nat → Nat} {Op : Nat → Prop} {E X N K p f : Nat} {L : List cE} {c0 c : cS} {s0 s : tS} {vo : Nat → Nat} {vq : Nat → Nat} {Opq Oaq Ouq : Nat → Prop} {Eq' Oq' : Nat} {sq : tS} {Hq Dq : Nat} {kC : cS → cRes} {kT : tS → tR}
/-- over a word, at the reader's state -/
theorem J_nx (dc dt : Nat) (hR : RP χ n t r p f vo Op Oa Ou E O c s) (h1 : cNx c + 300 * (n - f) ≤ cNx c0 + 300 * (n - f0)) (h2 : cSl c + 2000 * (n - f) ≤ cSl c0 + 2000 * (n - f0)) (hF : FH kT)
    (hgo : ∀ c' s' p' f', WK χ n t r p vo Op Oa Ou E O c s c' s' p' f' → ST n r f c s f' c' s' → p ≤ f' → (tI s 8 ≠ 0 → f < f' ∧ cNx c' + 300 * (n - f') + 298 ≤ cNx c + 300 * (n - f) ∧ cSl c' + 2000 * (n - f') + 1992 ≤ cSl c + 2000 * (n - f)) → PX χ n t r f0 p0 vq Opq Oaq Ouq Eq' Oq' c0 sq Hq Dq (kC c') (kT s')) :
    PX χ n t r f0 p0 vq Opq Oaq Ouq Eq' Oq' c0 sq Hq Dq (bV (cC (dc + 20) 1001 [eR (.ref (r + 16))] c) kC) (bV (cT (dt + 20) 6 [eR (.ref 0)] s) kT) := by
  rcases P_next dc dt hR with hb | ⟨c2, s3, p3, f3, e5, e6, hW⟩
  · left
    exact j_lx hb (f1 := f) h1 h2 hF
  · obtain ⟨hS, hS2⟩ := WK_ST hR hW
    rw [e5, e6, b_V, b_V]
    exact hgo c2 s3 p3 f3 hW hS hW.2.1 hS2
/-- a node is begun at a state behind the part, then the next word -/
theorem B_start (dc dt dt2 : Nat) {c1 : cS} {s1 : tS} {f1 : Nat} {p1 : Nat} {Ou1 : Nat → Prop} {vo1 : Nat → Nat} {k a b : Int32} {kN : Int32 → tS → tR} (hK : K ≤ 42) (hk : k = Int32.ofNat K) (hR0 : RP χ n t r p f vo Op Oa Ou E O c s) (hR1 : RP χ n t r p1 f1 vo1 Op Oa Ou1 (E + 60) O c1 s1) (hff : f ≤ f1) (hKC : KC r c c1) (hKT : KT s s1) (hvo : ∀ v, v < cnt s 50 → vo1 v = vo v) (hraw : ∀ b, raw c b → raw c1 b) (hnx : cNx c1 + 300 * (n - f1) ≤ cNx c + 100 + 300 * (n - f)) (hsl : cSl c1 + 2000 * (n - f1) ≤ cSl c + 1500 + 2000 * (n - f))
    (hold : ∀ y, y < cnt s 65 → ∀ z, z ∈ [66, 67, 68, 69, 70, 71, 72] → tA s1 z y = tA s z y) (hKS : KS s s1) (h65 : cnt s1 65 = cnt s 65) (h62 : cnt s1 62 = cnt s 62 + 1) (h8 : tI s1 8 ≠ 0) (hF : FH (kN (Int32.ofNat (cnt s 65))))
    (hbad : cNx c1 + 3 ≤ cNx c + 300 * (n - f) + 100 ∧ cSl c1 + 16 ≤ cSl c + 2000 * (n - f) + 800)
    (hgo : ∀ c' s' p' f', BS χ n t r f vo Op Oa Ou1 E 60 O c s (cnt s 65) K [] p' f' vo1 c' s' → p1 ≤ f' → f1 < f' → cNx c' + 300 * (n - f') + 190 ≤ cNx c + 300 * (n - f) → cSl c' + 2000 * (n - f') + 400 ≤ cSl c + 2000 * (n - f) → tA s' 68 (cnt s 65) = a → tA s' 69 (cnt s 65) = b → KC r c1 c' → KT s1 s' → PX χ n t r f p0 vq Opq Oaq Ouq Eq' Oq' c sq Hq Dq (kC c') (kN (Int32.ofNat (cnt s 65)) s')) :
    PX χ n t r f p0 vq Opq Oaq Ouq Eq' Oq' c sq Hq Dq (bV (cC (dc + 20) 1001 [eR (.ref (r + 16))] c1) kC) (bI (cT (dt2 + 1) 47 [eR (.ref 0), eI k, eI a, eI b] s1) fun v h => bV (cT (dt + 20) 6 [eR (.ref 0)] h) (kN v)) := by
  have hn62 := hR0.2.2.2.1.2.1.2.2.2.2.2
  have hok62 := hR1.2.2.2.1.2.1.1.1.2
  obtain ⟨e3, hR3, hST3⟩ := P_node dt2 K hK a b hR1 (by omega)
  obtain ⟨n1, n2, n3, n4, n5, n6, n7⟩ := nd_new s1 (Int32.ofNat K) a b
  have hthd := nd_th s1 (Int32.ofNat K) a b
  have hold2 : ∀ {y : Nat}, y ≠ cnt s1 65 → ∀ z, tA (ndT s1 (Int32.ofNat K) a b) z y = tA s1 z y := fun hy z => nd_old s1 _ _ _ hy z
  have nd65 := (nd_cnt (k := Int32.ofNat K) (a := a) (b := b) hR1.2.2.2.1.2.1.2.2.2.2.1).1
  rw [hk, e3, b_I]
  rw [h65] at n1 n2 n3 n4 n5 n6 n7 hR3 hold2 nd65 ⊢
  have e64 := hR1.2.2.2.1.2.2.2.2.2.2.2.1.1.1.1
  have c64 : cnt s1 64 = cnt s 64 := hKS.2.2.2.2
  generalize ndT s1 (Int32.ofNat K) a b = s3 at *
  have htok : tI s3 8 ≠ 0 := by rw [th_I hthd (by decide)]; exact h8
  rcases P_next dc dt hR3 with hb | ⟨c4, s4, p4, f4, e5, e6, hW⟩
  · left
    obtain ⟨a9, c9, s9, k9, pl9, v1, v2, v3, v4, v5, v6, v7, v8⟩ := hb
    obtain ⟨q, s'', q1, q2, q3⟩ := hF s9 (by rw [v4]; exact v6)
    refine ⟨a9, c9, q, s'', k9, pl9, ?_, ?_, v3, by rw [q2]; exact v4, by rw [q3]; exact v5, v6, by omega, by omega⟩
    · rw [v1]; rfl
    · rw [v2, b_V]; exact q1
  · obtain ⟨hS4, hS4'⟩ := WK_ST hR3 hW
    obtain ⟨m1, m2, m3⟩ := hS4' htok
    have hth4 := hW.2.2.2.1
    have oW : ∀ z y, tA s4 z y = tA s3 z y := fun z y => th_A hth4 (by simp) y
    have hl1 : (cLs c (r + 8)).length ≤ (cLs c1 (r + 8)).length := by rw [RP_len hR0, RP_len hR1]; exact hKT.1 35 (by simp)
    have hKT14 : KT s1 s4 := KT_trans hST3.2.1 hS4.2.1
    have hKS4 : KS s1 s4 := KS_trans (KS_th hthd (by decide)) (KS_th hth4 (by decide))
    have hBS : BS χ n t r f vo Op Oa Ou1 E 60 O c s (cnt s 65) K [] p4 f4 vo1 c4 s4 := by
      refine ⟨hW.1, ⟨KC_trans hl1 hKC hS4.1, KT_trans hKT hKT14, fun y hy z hz => ?_, by omega, by omega, by omega, fun b q => hS4.2.2.2.2.2.2 b (hraw b q)⟩, hvo, Nat.le_refl _, ?_, KS_trans hKS hKS4, ?_, ?_, ?_, ?_, List.nodup_nil, 0, fun e he => by cases he⟩
      · rw [oW, hold2 (by omega)]; exact hold y hy z hz
      · rw [th_cnt hth4 (by decide), nd65]; omega
      · rw [oW]; exact n1
      · rw [oW, n2, e64, c64]
      · rw [oW]; exact n6
      · show lnk s4 [] (tA s4 70 (cnt s 65))
        rw [oW]; exact n5
    rw [e5, e6, b_V, b_V]
    exact hgo c4 s4 p4 f4 hBS hW.2.1 m1 (by omega) (by omega) (by rw [oW]; exact n3) (by rw [oW]; exact n4) hS4.1 hKT14
/-- a plain part is made for a node that has begun -/
theorem B_plain (dc : Nat) {K : Nat} {H D : Nat} {v : Int32} {s0 : tS} (hz : (cLs c0 (r + 8)).length = cnt s0 35) (hH : 1 ≤ H) (hp : p0 ≤ f) (hB : BS χ n t r f0 vo0 Op Oa Ou E 60 O c0 s0 N K [] p f vo c s) (hK : K = 0 ∨ K = 1 ∨ K = 4) (h1 : cNx c + 1 + 300 * (n - f) ≤ cNx c0 + 300 * (n - f0)) (h2 : cSl c + 10 + 2000 * (n - f) ≤ cSl c0 + 2000 * (n - f0))
    (hv : (K = 1 ∧ v = -1) ∨ (K = 0 ∧ aok s 68 N 399 ∧ ca s 68 N < cnt s 58 ∧ v = tA s 68 N) ∨ (K = 4 ∧ aok s 68 N 7 ∧ ca s 68 N < cnt s 25 ∧ v = tA s 68 N)) {k : Int32} (hk : k = Int32.ofNat K) :
    ∃ c', (cnw c 25 fun v33 h34 => bV (cC (dc + 11) 2500 [eR v33, eI k, eI v] h34) fun h35 => some (.inl (some (eR v33)), h35)) = some (.inl (some (eR (.ref (cNx c)))), c') ∧ PXo χ n t r f0 p0 vo0 Op Oa Ou E O c0 s0 H D (cNx c) N c' s p f := by
  have hR5 := hB.1
  have hn5 := hR5.2.2.1
  have ha5 : cCl c (cNx c) = 0 := (hn5 _ (Nat.le_refl _)).1
  have hnw : cmore (csCl c (cNx c) 25) (csz 25) = nwC c 25 := rfl
  have e11 := c_lt dc (c := nwC c 25) (a := cNx c) k v (nw_cl c 25)
  have hfr : FR c (ltC (nwC c 25) (cNx c) k v) := FR_I ha5 (FR_I ha5 (FR_nw ha5 (FR_refl c)))
  have hcl6 : CLN (ltC (nwC c 25) (cNx c) k v) := cC_cln e11 (P_new 25 hR5).2.2.1
  have hnx6 : cNx (ltC (nwC c 25) (cNx c) k v) = cNx c + 1 := rfl
  have hsl6 : cSl (ltC (nwC c 25) (cNx c) k v) = cSl c + csz 25 := rfl
  have hcz : csz 25 ≤ 10 := by decide
  have hR6 := RP_FR hfr (NF_nw (k := 25) (by decide) (NF_refl c)) hcl6 hR5
  have hK6 := FR_kc hfr (NF_nw (k := 25) (by decide) (NF_refl c)) hR5.2.2.2.1.1
  have g1 : cCl (ltC (nwC c 25) (cNx c) k v) (cNx c) = 25 := nw_cl c 25
  have g2 : cI (ltC (nwC c 25) (cNx c) k v) 2500 (cNx c) = k := by simp [ltC, gC]
  have g3 : cI (ltC (nwC c 25) (cNx c) k v) 2501 (cNx c) = v := by simp [ltC, gC]
  obtain ⟨r1, r2, r3, r4, r5⟩ := BS_root hB (by omega)
  have hraw6 : ∀ b, raw c0 b → raw (ltC (nwC c 25) (cNx c) k v) b := fun b q => FR_raw hfr (NF_nw (k := 25) (by decide) (NF_refl c)) b (hB.2.1.2.2.2.2.2.2 b q)
  have hk66 : tA s 66 N = Int32.ofNat K := hB.2.2.2.2.2.2.1
  have hk70 : tA s 70 N = -1 := hB.2.2.2.2.2.2.2.2.2.1
  refine ⟨_, by rw [r_cnw, hnw, e11, b_V], BS_fin (g := 1) hz hp hB ?_ hK6 (by omega) (by omega) hraw6 ?_⟩
  · rw [← Nat.add_assoc]
    exact P_close0 hR6 (by rw [r5]; omega)
  · refine Or.inr ⟨r1, r2, r3, r4, hH, by omega, Or.inl ⟨g1, by rw [g2, hk66, hk], hk70, ?_⟩⟩
    rw [r5, g3]
    rcases hv with ⟨q1, q2⟩ | ⟨q1, q2, q3, q4⟩ | ⟨q1, q2, q3, q4⟩
    · exact Or.inl ⟨q1, q2⟩
    · exact Or.inr (Or.inl ⟨q1, q2, q3, q4⟩)
    · exact Or.inr (Or.inr ⟨q1, q2, q3, q4⟩)
theorem S_number (dc dt : Nat) {H D lv : Nat} (hH : 1 ≤ H) (vo : Nat → Nat) (Op : Nat → Prop) (E p f : Nat) (c : cS) (s : tS) (hlv : cnt s 63 = lv) (hR : RP χ n t r p f vo Op Oa Ou E O c s) (h8 : tI s 8 = 3) :
    PX χ n t r f p vo Op Oa Ou E O c s H D (bV (cC (dc + 31) 818 [eR (.ref r)] c) fun h25 => cgR h25 801 (.ref r) fun v26 => cgR h25 800 (.ref r) fun v27 => cgI h25 1006 v27 fun v28 => bI (cC (dc + 31) 903 [eR v26, eI v28] h25) fun v30 h29 => cgR h29 800 (.ref r) fun v31 => bV (cC (dc + 31) 1001 [eR v31] h29) fun h32 => cnw h32 25 fun v33 h34 => bV (cC (dc + 31) 2500 [eR v33, eI 0, eI v30] h34) fun h35 => some (.inl (some (eR v33)), h35)) (bI (cT (dt + 31) 46 [eR (.ref 0)] s) fun v45 h44 => if v45 = 0 then some (.inl (some (eI 0)), h44) else bI (cT (dt + 31) 63 [eR (.ref 0)] h44) fun v47 h46 => some (.inl (some (eI v47)), h46)) := by
  have hz := RP_len hR
  have hval := (lw_3 hR.1.2.2.2.2.2 h8).2
  have hlt := (lw_3 hR.1.2.2.2.2.2 h8).1
  have hpn := hR.1.1.2.2.2.2.2.2.1
  refine J_part (dc + 16) (dt + 28) hR (fun hR1 hST1 h62 => ?_)
  have hS1 := hR1.2.2.2.1.1
  have hw1 : cCl (ptC c r) (r + 16) = 10 := hR1.1.1.1.1
  have h58 := hR.2.2.2.1.2.1.2.2.1.2.1
  have hv1 : cI (ptC c r) 1006 (r + 16) = tI s 11 := hval
  obtain ⟨c1, s1, k, e1, e2, hR2, hKC2, hKT2, hth2, hraw2, nx2, sl2, hk2, hk399⟩ := P_num (dc + 21) (dt + 29) (tI s 11) hR1 (by have : cnt (ptT s) 58 = cnt s 58 := rfl; omega)
  have h11 : tI (ptT s) 11 = tI s 11 := rfl
  have hnp : cNx (ptC c r) = cNx c := rfl
  have hnp2 : cSl (ptC c r) = cSl c := rfl
  rw [r_cgR, if_pos hS1.1, hS1.2.2.1, RP_800 hR1, r_cgI, if_pos hw1, hv1, e1, b_I, RP_800 hR2, kX7_simpleNumber, uX7_simpleNumber, h11, e2, b_I]
  have eas : ∀ (q : tS), (bI (bI (cT (dt + 30) 47 [eR (.ref 0), eI 0, eI (Int32.ofNat k), eI 0] q) fun v4 h3 => bV (cT (dt + 30) 6 [eR (.ref 0)] h3) fun h5 => some (.inl (some (eI v4)), h5)) fun v47 h46 => some (.inl (some (eI v47)), h46)) = (bI (cT (dt + 30) 47 [eR (.ref 0), eI 0, eI (Int32.ofNat k), eI 0] q) fun v4 h3 => bV (cT (dt + 30) 6 [eR (.ref 0)] h3) fun h5 => some (.inl (some (eI v4)), h5)) := fun q => by
    rcases cT (dt + 30) 47 [eR (.ref 0), eI 0, eI (Int32.ofNat k), eI 0] q with _ | ⟨((_ | (a | (a | a))) | a), h⟩ <;> try rfl
    show bI (bV (cT (dt + 30) 6 [eR (.ref 0)] h) fun h5 => some (.inl (some (eI a)), h5)) _ = bV (cT (dt + 30) 6 [eR (.ref 0)] h) fun h5 => some (.inl (some (eI a)), h5)
    rcases cT (dt + 30) 6 [eR (.ref 0)] h with _ | ⟨((_ | (a | (a | a))) | a), h⟩ <;> rfl
  rw [eas]
  refine B_start (dc + 11) (dt + 10) (dt + 29) (K := 0) (by decide) rfl hR hR2 (Nat.le_refl _) (KC_trans (show (cLs c (r + 8)).length ≤ (cLs (ptC c r) (r + 8)).length from Nat.le_refl _) hST1.1 hKC2) (KT_trans hST1.2.1 hKT2) (fun _ _ => rfl) (fun b q => hraw2 b (hST1.2.2.2.2.2.2 b q)) (by omega) (by omega) (fun y hy z hz' => by rw [th_A hth2 (by simp only [List.mem_cons, List.not_mem_nil, or_false] at hz' ⊢; omega)]; rfl) (KS_trans (KS_pt _) (KS_th hth2 (by decide))) ((th_cnt hth2 (by decide)).trans rfl) (by rw [th_cnt hth2 (by decide)]; exact h62) (by rw [th_I hth2 (by decide)]; show tI s 8 ≠ 0; rw [h8]; decide) (fun s' q2 => ⟨_, _, rfl, rfl, rfl⟩) ⟨by omega, by omega⟩ (fun c3 s3 p3 f3 hB3 hp3 hf3 m1 m2 k68 _ hKC3 hKT3 => ?_)
  have hc68 := ca_of k68 (by omega)
  obtain ⟨c', e3, hX⟩ := B_plain (p0 := p) (dc + 20) (H := H) (D := D) (v := Int32.ofNat k) hz hH (by omega) hB3 (Or.inl rfl) (by omega) (by omega) (Or.inr (Or.inl ⟨rfl, aok_of k68 (by omega) hk399, by rw [hc68]; exact Nat.lt_of_lt_of_le hk2 (hKT3.1 58 (by simp)), k68.symm⟩)) (k := 0) rfl
  right
  exact ⟨cNx c3, cnt s 65, c', s3, p3, f3, e3, rfl, hX⟩
end
