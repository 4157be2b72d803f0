set_option maxRecDepth 100000
set_option maxHeartbeats 4000000
/-! D65: a new object of a module -/
section
variable {χ : Nat → Int32} {n t r : Nat} {Oa Ou : Nat → Prop} {O : Nat}
theorem mod_loop (d e : Nat) {c : cS} {s : tS} {x : Nat} {a b : Int64} (hab : nm a b) (hS : RSt r c) (hM : RMt r x c s) :
    ∀ m k, k + m = cnt s 25 → (∃ j, j < cnt s 25 ∧ tB s 26 j = b ∧ fX9_module_2 (cC (d + 9)) (.ref (r + 1)) a (Int32.ofNat k) c = some (.inl (some (eR (.ref (lid c (r + 4) j)))), c) ∧ fX7_moduleOf_2 (cT e) b (Int32.ofNat k) s = some (.inl (some (eI (Int32.ofNat j))), s)) ∨
      ((∀ j, k ≤ j → j < cnt s 25 → tB s 26 j ≠ b) ∧ fX9_module_2 (cC (d + 9)) (.ref (r + 1)) a (Int32.ofNat k) c = some (.inl (some (eR .null)), c) ∧ fX7_moduleOf_2 (cT e) b (Int32.ofNat k) s = some (.inl (some (eI (-1))), s)) := by
  have h8 := hM.1.2
  have hlen := hM.2.1.1
  have h901 : cR c 901 (r + 1) = .ref (r + 4) := hS.2.2.2.2.2.1.2.1
  have h9 := hS.2.2.2.2.1
  intro m
  induction m with
  | zero =>
    intro k hk'
    right
    refine ⟨fun j j1 j2 => by omega, ?_, ?_⟩
    · rw [uX9_module_2, r_cgR, if_pos h9, h901, c_len d (RSt_mL hS) rfl, b_I, hlen]
      simp only [z_lt (show k < 2147483648 by omega) (show cnt s 25 < 2147483648 by omega), show ¬ k < cnt s 25 by omega, if_false]
    · rw [uX7_moduleOf_2, hM.1.1]
      simp only [z_lt (show k < 2147483648 by omega) (show cnt s 25 < 2147483648 by omega), show ¬ k < cnt s 25 by omega, if_false]
  | succ m ih =>
    intro k hk'
    have hlt : k < cnt s 25 := by omega
    obtain ⟨l1, l2⟩ := hM.2.1.2 k hlt
    have hnm := (hM.2.2 k hlt).2.1
    have eC : fX9_module_2 (cC (d + 9)) (.ref (r + 1)) a (Int32.ofNat k) c = if cL c 1501 (lid c (r + 4) k) = a then some (.inl (some (eR (.ref (lid c (r + 4) k)))), c) else fX9_module_2 (cC (d + 9)) (.ref (r + 1)) a (Int32.ofNat k + 1) c := by
      rw [uX9_module_2, r_cgR, if_pos h9, h901, c_len d (RSt_mL hS) rfl, b_I, hlen]
      simp only [z_lt (show k < 2147483648 by omega) (show cnt s 25 < 2147483648 by omega), hlt, if_true]
      have eg := c_get d (RSt_mL hS) rfl (i := k) (by rw [hlen]; exact hlt) (by omega)
      rw [r_cgR, if_pos h9, h901, eg, b_R, l1, r_castR, if_pos (Or.inl l2), r_cgL, if_pos l2, r_cgR, if_pos h9, h901, eg, b_R, l1, r_castR, if_pos (Or.inl l2)]
      simp only [lg_cmp_eq]
    have eT : fX7_moduleOf_2 (cT e) b (Int32.ofNat k) s = if tB s 26 k = b then some (.inl (some (eI (Int32.ofNat k))), s) else fX7_moduleOf_2 (cT e) b (Int32.ofNat k + 1) s := by
      rw [uX7_moduleOf_2, hM.1.1]
      simp only [z_lt (show k < 2147483648 by omega) (show cnt s 25 < 2147483648 by omega), hlt, if_true]
      rw [q_26 (by omega)]
      simp only [lg_cmp_eq]
    have eadd : Int32.ofNat k + 1 = Int32.ofNat (k + 1) := by rw [show (1 : Int32) = Int32.ofNat 1 from rfl, z_add]
    rw [eC, eT, eadd]
    have hiff := nm_eq hnm hab
    by_cases q : tB s 26 k = b
    · left
      exact ⟨k, hlt, q, if_pos (hiff.2 q), if_pos q⟩
    · rw [if_neg (fun w => q (hiff.1 w)), if_neg q]
      rcases ih (k + 1) (by omega) with w | ⟨w1, w2⟩
      · left; exact w
      · right
        refine ⟨fun j j1 j2 => ?_, w2⟩
        by_cases z : j = k
        · rw [z]; exact q
        · exact w1 j (by omega) j2
theorem S_new (dc dt : Nat) {H D lv : Nat} (hH : 1 ≤ H) (vo : Nat → Nat) (Op : Nat → Prop) (E p f : Nat) (c : cS) (s : tS) (hlv : cnt s 63 = lv) (hR : RP χ n t r p f vo Op Oa Ou E O c s) (h8 : tI s 8 ≠ 0) :
    PX χ n t r f p vo Op Oa Ou E O c s H D (cC (dc + 31) 835 [eR (.ref r)] c) (cT (dt + 31) 69 [eR (.ref 0)] s) := by
  have hz := RP_len hR
  rw [kX8_fresher, r_cck, if_pos hR.2.2.2.1.1.1, uX8_fresher, kX7_newAtom, uX7_newAtom]
  refine J_part (dc + 15) (dt + 27) hR (fun hR1 hST1 h62 => ?_)
  rw [RP_800 hR1]
  have hnp : cNx (ptC c r) = cNx c := rfl
  have hnp2 : cSl (ptC c r) = cSl c := rfl
  refine J_nx (dc + 10) (dt + 10) hR1 (by omega) (by omega) (fun s' q2 => ?_) (fun c2 s2 p2 f2 hW hST2 hp2 hslk => ?_)
  · rw [F_isName (dt + 27) q2, b_I, if_pos rfl]
    exact ⟨_, _, rfl, rfl, rfl⟩
  obtain ⟨m1, m2, m3⟩ := hslk (show tI (ptT s) 8 ≠ 0 from h8)
  have hR2 := hW.1
  have hS2 := hR2.2.2.2.1.1
  have hw2 := hR2.1.1.1.1
  have hl2 := hR2.1.1.2.2.2.2.1.1
  have hfi2 := hR2.2.1
  have hth2 := hW.2.2.2.1
  have h1004 : cI c2 1004 (r + 16) = tI s2 8 := hR2.1.2.2.2.2.1
  rw [r_cgR, if_pos hS2.1, hS2.2.2.1, c_name (dc + 15) hS2.1 hS2.2.1 hw2 hl2, h1004, t_isName (dt + 27), if_pos hfi2]
  obtain ⟨_, y2, y3, _, _⟩ := lx_mis hR2.1 hfi2 1 (by decide)
  obtain ⟨_, _, _, z4, z5⟩ := lx_mis hR2.1 hfi2 3 (by decide)
  by_cases hn1 : tI s2 8 = 1
  · rw [if_pos hn1, b_L, if_pos hn1, b_I, if_neg (by decide)]
    have hname := (lw_1 hR2.1.2.2.2.2.2 hn1).2
    have hM2 := hR2.2.2.2.1.2.2.2.2.1
    have e0 : Int32.ofNat 0 = (0 : Int32) := rfl
    have kM : cC (dc + 30) 902 [eR (.ref (r + 1)), eL (cL c2 1007 (r + 16))] c2 = fX9_module_2 (cC (dc + 20 + 9)) (.ref (r + 1)) (cL c2 1007 (r + 16)) 0 c2 := by
      rw [kX9_module, r_cck, if_pos hS2.2.2.2.2.1, uX9_module]
    have kT : cT (dt + 30) 32 [eR (.ref 0), eL (tL s2 12)] s2 = fX7_moduleOf_2 (cT (dt + 29)) (tL s2 12) 0 s2 := by
      rw [kX7_moduleOf, uX7_moduleOf]
    rcases mod_loop (dc + 20) (dt + 29) hname hS2 hM2 (cnt s2 25) 0 (by omega) with ⟨j, j1, _, j3, j4⟩ | ⟨_, j3, j4⟩
    · rw [e0] at j3 j4
      have hj15 := (hM2.2.1.2 j j1).2
      have h8m := hM2.1.2
      have hj1500 := (hM2.2.2 j j1).1
      have em : cC (dc + 30) 803 [eR (.ref r), eI 1, eI 3] c2 = some (.inl none, c2) := (c_must (dc + 16) true 3 hS2.1 hS2.2.1 hw2 hl2).trans (if_pos rfl)
      rw [kM, j3, b_R, if_neg (by simp), uX8_fresher_17, em, b_V, RP_800 hR2, kT, j4, b_I, if_neg (by rw [ofNat_ne_m1 (by omega)]; exact id)]
      have hl01 : (cLs c (r + 8)).length ≤ (cLs (ptC c r) (r + 8)).length := Nat.le_refl _
      have htokA : ∀ z y, tA s2 z y = tA s z y := fun z y => (th_A hth2 (by simp) y).trans rfl
      refine B_start (dc + 10) (dt + 10) (dt + 29) (K := 4) (by decide) rfl hR hR2 (by omega) (KC_trans hl01 hST1.1 hST2.1) (KT_trans hST1.2.1 hST2.2.1) (fun _ _ => rfl) (fun b q => hST2.2.2.2.2.2.2 b (hST1.2.2.2.2.2.2 b q)) (by omega) (by omega) (fun y _ z _ => htokA z y) (KS_trans (KS_pt _) (KS_th hth2 (by decide))) ((th_cnt hth2 (by decide)).trans rfl) (by rw [th_cnt hth2 (by decide)]; exact h62) (by rw [hn1]; decide) (fun s' q2 => ⟨_, _, rfl, rfl, rfl⟩) ⟨by omega, by omega⟩ (fun c3 s3 p3 f3 hB3 hp3 hf3 m4 m5 k68 _ hKC3 hKT3 => ?_)
      have hc68 := ca_of k68 (by omega)
      have hj3 : cI c3 1500 (lid c2 (r + 4) j) = Int32.ofNat j := by rw [kc_I hKC3 hj15 (by decide) (by decide)]; exact hj1500
      have hcj3 : cCl c3 (lid c2 (r + 4) j) = 15 := kc_cl hKC3 hj15 (by decide)
      have hne : lid c2 (r + 4) j ≠ cNx c3 := fun q => by rw [q, (hB3.1.2.2.1 _ (Nat.le_refl _)).1] at hcj3; cases hcj3
      have ecn : (cnw c3 25 fun v4 h5 => cgI h5 1500 (.ref (lid c2 (r + 4) j)) fun v6 => bV (cC (dc + 30) 2500 [eR v4, eI 4, eI v6] h5) fun h7 => some (.inl (some (eR v4)), h7)) = (cnw c3 25 fun v4 h5 => bV (cC (dc + 30) 2500 [eR v4, eI 4, eI (Int32.ofNat j)] h5) fun h7 => some (.inl (some (eR v4)), h7)) := by
        rw [r_cnw, r_cnw]
        have q1 : cCl (cmore (csCl c3 (cNx c3) 25) (csz 25)) (lid c2 (r + 4) j) = 15 := by
          show cCl (csCl c3 (cNx c3) 25) _ = _
          rw [g_Cl_Cl, if_neg hne]; exact hcj3
        have q2 : cI (cmore (csCl c3 (cNx c3) 25) (csz 25)) 1500 (lid c2 (r + 4) j) = Int32.ofNat j := hj3
        rw [r_cgI, if_pos q1, q2]
      rw [ecn]
      obtain ⟨c', e3, hX⟩ := B_plain (p0 := p) (dc + 19) (H := H) (D := D) (v := Int32.ofNat j) hz hH (by omega) hB3 (Or.inr (Or.inr rfl)) (by omega) (by omega) (Or.inr (Or.inr ⟨rfl, aok_of k68 (by omega) (by omega), by rw [hc68]; exact Nat.lt_of_lt_of_le j1 (hKT3.1 25 (by simp)), k68.symm⟩)) (k := 4) rfl
      right
      exact ⟨cNx c3, cnt s 65, c', s3, p3, f3, e3, rfl, hX⟩
    · left
      rw [e0] at j3 j4
      have em : cC (dc + 30) 803 [eR (.ref r), eI 0, eI 3] c2 = some (.inr (.ref (cNx c2)), wH c2 3 (cI c2 1005 (r + 16))) := (c_must (dc + 16) false 3 hS2.1 hS2.2.1 hw2 hl2).trans (if_neg (by decide))
      rw [kM, j3, b_R, if_pos rfl, uX8_fresher_17, em, b_Vx, kT, j4, b_I, if_pos rfl, t_fails (dt + 28), b_V]
      exact j_mis hR2 3 (by decide) (by omega) (by omega) (s1 := fH s2 3 (tI s2 9)) rfl rfl rfl ⟨z4, z5⟩
  · left
    rw [if_neg hn1, b_Lx, if_neg hn1, b_I, if_pos rfl]
    exact j_mis hR2 1 (by decide) (by omega) (by omega) (s1 := fH s2 1 (if tI s2 8 = 0 then tI s2 4 else tI s2 9)) rfl rfl rfl ⟨y2, y3⟩
end
