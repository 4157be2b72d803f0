set_option maxRecDepth 100000
set_option maxHeartbeats 4000000
/-! D90: the rights of a limit, one after the other -/
/-- a unit with its limit -/
def limV (r : Nat) (c : cS) (s : tS) (u w N m lu L : Nat) : Prop := UN r c s u w 3 lu ∧ cR c 1609 lu = .ref (lid c (r + 9) m) ∧ cR c 2300 (lid c (r + 9) m) = .ref L ∧ (∀ k, k < cnt s 22 → k ≠ m → cR c 2300 (lid c (r + 9) k) ≠ .ref L) ∧ m < cnt s 22 ∧ tA s 42 u = Int32.ofNat m ∧ ca s 44 u = 0 ∧ tA s 68 N = Int32.ofNat u ∧ ∀ i, i < (cLs c (lid c (r + 8) w + 5)).length → lid c (lid c (r + 8) w + 5) i ≠ lu
section
variable {χ : Nat → Int32} {n t r p f : Nat} {vo : Nat → Nat} {Op Oa Ou : Nat → Prop} {E O : Nat} {c c' : cS} {s s' : tS} {XI XL XR XC YI YL YA YB : List Nat}
theorem limV_fr {u w N m lu L : Nat} (hR : RP χ n t r p f vo Op Oa Ou E O c s) (hKC : KC r c c') (hKT : KT s s') (h : CH XI XL XR XC c c') (ht : TH YI YL YA YB s s') (hd : (dj [1609, 2300] XR && dj [5904, 6617] XC && dj [22] YI && dj [42, 44, 68] YA) = true) (hv : limV r c s u w N m lu L) : limV r c' s' u w N m lu L := by
  simp only [Bool.and_eq_true] at hd
  obtain ⟨⟨⟨d1, d2⟩, d3⟩, d4⟩ := hd
  obtain ⟨v1, v2, v3, v4, v5, v6, v7, v8, v9⟩ := hv
  have hS := hR.2.2.2.1.1
  have hLm := hR.2.2.2.1.2.2.2.1
  have hcu : cCl c lu = 16 := by rw [← v1.2.2.2.2.1]; exact (RUt_cap hR.2.2.2.1.2.2.2.2.2.1 v1.1).2.2.2
  have hl : ∀ k, lid c' (r + 9) k = lid c (r + 9) k := fun k => ch_lid h (RSt_lL hS) (by decide) (dj_not d2 (by simp)) k
  have hr : ∀ k, k < cnt s 22 → cR c' 2300 (lid c (r + 9) k) = cR c 2300 (lid c (r + 9) k) := fun k hk => ch_R h (hLm.2.1.2 k hk).2 (by decide) (dj_not d1 (by simp))
  have hw35 : w < cnt s 35 := Nat.lt_trans v1.2.2.1 v1.1
  have hw5 := (RUt_cap hR.2.2.2.1.2.2.2.2.2.1 hw35).2.2.1
  have hlw : lid c' (r + 8) w = lid c (r + 8) w := hKC.2.2.2.2.2.2.2.2 w (by rw [RP_len hR]; exact hw35)
  refine ⟨UN_st hR hKC hKT v1, ?_, ?_, fun k hk hne => ?_, ?_, ?_, ?_, ?_, fun i hi => ?_⟩
  · rw [hl, ch_R h hcu (by decide) (dj_not d1 (by simp))]; exact v2
  · rw [hl, hr m v5]; exact v3
  · rw [th_cnt ht (dj_not d3 (by simp))] at hk
    rw [hl, hr k hk]; exact v4 k hk hne
  · rw [th_cnt ht (dj_not d3 (by simp))]; exact v5
  · rw [th_A ht (dj_not d4 (by simp))]; exact v6
  · rw [th_ca ht (dj_not d4 (by simp))]; exact v7
  · rw [th_A ht (dj_not d4 (by simp))]; exact v8
  · rw [hlw, ch_Ls h hw5 (by decide) (dj_not d2 (by simp))] at hi
    rw [hlw, ch_lid h hw5 (by decide) (dj_not d2 (by simp))]
    exact v9 i hi
end
section
variable {χ : Nat → Int32} {n t r : Nat} {Oa Ou : Nat → Prop} {O : Nat}
variable {f0 p0 : Nat} {vo0 : Nat → Nat} {Op : Nat → Prop} {E X N K : Nat} {L0 : List cE} {c0 : cS} {s0 : tS} {vq : Nat → Nat} {Opq Oaq Ouq : Nat → Prop} {Eq' Oq' : Nat} {sq : tS} {Hq Dq : Nat}
theorem F_p81 (dt : Nat) (v x : Int32) {q : tS} (hq : tI q 6 ≠ 0) : fX7_priv_81 (cT (dt + 31)) v x q = some (.inl (some (eI x)), q) := by
  rw [uX7_priv_81, F_sign (dt + 27) _ hq, b_V, F_bodyOf (dt + 29) _ hq, b_V]
theorem F_p66 (dt : Nat) (v x y z : Int32) {q : tS} (hq : tI q 6 ≠ 0) : fX7_priv_66 (cT (dt + 31)) v x y z q = some (.inl (some (eI x)), q) := by
  rw [uX7_priv_66]
  by_cases w : z = 0
  · rw [if_pos w, F_p81 dt v x hq]
  · rw [if_neg w, F_fine (dt + 30) hq, b_I, if_pos rfl, F_p81 dt v x hq]
theorem lim_loop (dc dt : Nat) {u w m lu L f9 : Nat} {vo : Nat → Nat} (hz : (cLs c0 (r + 8)).length = cnt s0 35)
    (hgo : ∀ c' s' p' f', BS χ n t r f0 vo0 Op Oa Ou E X O c0 s0 N K L0 p' f' vo c' s' → limV r c' s' u w N m lu L → cNx c' + 300 * (n - f') + 298 ≤ cNx c0 + 300 * (n - f0) → cSl c' + 2000 * (n - f') + 1992 ≤ cSl c0 + 2000 * (n - f0) → f9 ≤ f' → PX χ n t r f0 p0 vq Opq Oaq Ouq Eq' Oq' c0 sq Hq Dq (cgR c' 803 (.ref r) fun v11 => cgR c' 1617 v11 fun v12 => bI (cC (dc + 31) 9105 [eR v12, eR (.ref lu)] c') fun _ h13 => fX8_privileged_92 (cC (dc + 31)) (.ref r) (.ref lu) h13) (bV (cT (dt + 31) 59 [eR (.ref 0), eI (Int32.ofNat u)] s') fun h2 => some (.inl (some (eI (Int32.ofNat N))), h2))) :
    ∀ (g p f : Nat) (c : cS) (s : tS), n - f ≤ g → f9 ≤ f → BS χ n t r f0 vo0 Op Oa Ou E X O c0 s0 N K L0 p f vo c s → limV r c s u w N m lu L → tI s 8 ≠ 0 → PX χ n t r f0 p0 vq Opq Oaq Ouq Eq' Oq' c0 sq Hq Dq (fX8_privileged_69 (cC (dc + 31)) (.ref r) (.ref lu) c) (fX7_priv_66 (cT (dt + 31)) (Int32.ofNat u) (Int32.ofNat N) (Int32.ofNat (8 + m)) 1 s) := by
  intro g
  induction g with
  | zero =>
    intro p f c s hg h9 hB hv h8
    have := hB.1.1.2.1
    have := hB.1.1.1.2.2.2.2.2.2.1
    have := lw_lt hB.1.1.2.2.2.2.2 h8
    omega
  | succ g ih =>
    intro p f c s hg h9 hB hv h8
    have hfi := hB.1.2.1
    rw [uX8_privileged_69, uX7_priv_66, RP_800 hB.1, if_neg n10, t_fine (dt + 30), b_I, hfi, decide_eq_true rfl, bi_t, if_neg n10]
    refine B_next (dc + 11) (dt + 11) hz hB (fun q hq => ?_) (fun c2 s2 p2 f2 hB2 hW2 hp2 m1 m2 m3 m4 => ?_)
    · rw [F_right (dt + 27) _ hq, b_V, F_isSign (dt + 29) _ hq, b_I, F_p66 dt _ _ _ _ hq]
      exact ⟨_, _, rfl, rfl, rfl⟩
    · obtain ⟨m5, m6, m7⟩ := m4 h8
      have hS4 := (WK_ST hB.1 hW2).1
      have hv2 := limV_fr hB.1 hS4.1 hS4.2.1 hW2.2.2.1 hW2.2.2.2.1 (by decide) hv
      obtain ⟨v1, v2, v3, v4, v5, v6, v7, v8, v9⟩ := id hv2
      have hR2 := hB2.1
      have hU2 := hR2.2.2.2.1.2.2.2.2.2.1
      have hcu : cCl c2 lu = 16 := by rw [← v1.2.2.2.2.1]; exact (RUt_cap hU2 v1.1).2.2.2
      have hcm := (hR2.2.2.2.1.2.2.2.1.2.1.2 m v5).2
      rw [r_cgR, if_pos hcu, v2, r_cgR, if_pos hcm, v3]
      rcases P_right (dc + 9) (dt + 9) hR2 v5 v3 v4 with ⟨a9, c9, s9, k9, pl9, w1, w2, w3, w4, w5, w6, w7, w8⟩ | ⟨c3, s3, p3, f3, e1, e2, hR3, hKC, hKT, hch, hth, hff, hpf, nx, sl, hraw⟩
      · left
        have h9 : tI s9 6 ≠ 0 := by rw [w4]; exact w6
        have b1 := hB2.2.1.2.2.2.1
        have b2 := hB2.2.1.2.2.2.2.1
        refine ⟨a9, c9, Int32.ofNat N, s9, k9, pl9, ?_, ?_, w3, w4, w5, w6, by omega, by omega⟩
        · rw [w1, b_Vx]
        · rw [w2, b_V, F_isSign (dt + 29) _ h9, b_I, F_p66 dt _ _ _ _ h9]
      · have hB3 : BS χ n t r f0 vo0 Op Oa Ou E X O c0 s0 N K L0 p3 f3 vo c3 s3 := by
          refine BS_go (X' := X) (vo' := vo) hz hB2 hR3 hKC hKT (fun _ _ => rfl) (fun y _ z hz' _ => th_A hth (by simp only [List.mem_cons, List.not_mem_nil, or_false] at hz' ⊢; omega) y) (TH_refl _ _ _ _ s0) (KS_trans hB2.2.2.2.2.2.1 (KS_th hth (by decide))) ?_ ?_ ?_ (fun b q => hraw b (hB2.2.1.2.2.2.2.2.2 b q))
          · have := hB2.2.1.2.2.2.1; have := hR3.1.2.1; have := hR3.1.1.2.2.2.2.2.2.1; omega
          · have := hB2.2.1.2.2.2.2.1; have := hR3.1.2.1; have := hR3.1.1.2.2.2.2.2.2.1; omega
          · have := hB2.2.1.2.2.2.2.2.1; omega
        have hv3 := limV_fr hR2 hKC hKT hch hth (by decide) hv2
        have hfi3 := hR3.2.1
        have hw3 := hR3.1.1.1.1
        rw [e1, e2, b_V, b_V, RP_800 hR3, c_isSign (dc + 30) 44 hw3, b_I, t_isSign (dt + 29), b_I]
        simp only [lx_sgn hR3.1 (x := 44) (by decide), hfi3, true_and]
        by_cases hq : tI s3 8 = 5 ∧ tI s3 11 = 44
        · simp only [hq, and_self, decide_true, bi_t, e10, if_false]
          exact ih p3 f3 c3 s3 (by omega) (by omega) hB3 hv3 (by rw [hq.1]; decide)
        · simp only [hq, decide_false, bi_f, if_true]
          rw [RP_800 hR3, uX7_priv_66, if_pos rfl, uX7_priv_81]
          refine B_sign (dc + 9) (dt + 10) (x := 93) (y := 93) hz hB3 (lx_sgn hR3.1 (by decide)) (fun q hq => ?_) (fun c4 s4 p4 f4 hB4 hW4 hp4 n1 n2 n3 => ?_)
          · rw [F_bodyOf (dt + 29) _ hq, b_V]
            exact ⟨_, _, rfl, rfl, rfl⟩
          · have hS5 := (WK_ST hR3 hW4).1
            have hv4 := limV_fr hR3 hS5.1 hS5.2.1 hW4.2.2.1 hW4.2.2.2.1 (by decide) hv3
            have b1 := hB3.2.1.2.2.2.1
            have b2 := hB3.2.1.2.2.2.2.1
            exact hgo c4 s4 p4 f4 hB4 hv4 (by omega) (by omega) (by omega)
end
