set_option maxRecDepth 100000
set_option maxHeartbeats 4000000
/-! D83: the use of a variable -/
section
variable {χ : Nat → Int32} {n t r : Nat} {Op Oa Ou : Nat → Prop} {E O : Nat}
theorem c_use (d : Nat) {c : cS} {a o : Nat} (ha : cCl c a = 26) : cC (d + 11) 2600 [eR (.ref a), eR (.ref o)] c = some (.inl none, csR c 2600 a (.ref o)) := by
  rw [kX26_init, r_cck, if_pos ha, uX26_init, kX18_init, uX18_init]
  simp only [pP, ha, show misR (.ref o) = true from rfl, rC, bB, Nat.reduceDiv, Nat.reduceLeDiff, Nat.reduceLT,  eq_self, if_true, if_false, true_and, and_true, false_and, and_false, or_true, true_or, or_false, false_or, reduceIte, reduceCtorEq, Nat.reduceEqDiff, not_true_eq_false, not_false_eq_true, r_misN, r_misR, gC]
theorem J_use (dc dt : Nat) {H D v p f : Nat} {vo : Nat → Nat} {c : cS} {s : tS} {kk : Value → cS → cRes} (hH : 1 ≤ H) (hR : RP χ n t r p f vo Op Oa Ou E O c s) (hR1 : RP χ n t r p f vo Op Oa Ou (E + 60) O (ptC c r) (ptT s)) (hST1 : ST n r f c s f (ptC c r) (ptT s)) (h62 : cnt (ptT s) 62 = cnt s 62 + 1) (h8 : tI s 8 ≠ 0) (hv : v < cnt s 50) (hvis : visV s v) (hanc : anc s 60 (cnt s 64) (ca s 51 v))
    (hkk : ∀ c' s' p' f' Op' E' a, RP χ n t r p' f' vo Op' Oa Ou E' O c' s' → (∀ x, x ∈ [40, 51, 55, 57] → ∀ k, tA s' x k = tA s x k) → cnt s' 56 = cnt s 56 → cnt s' 64 = cnt s 64 → kk (.ref a) c' = bR (cC (dc + 80) 1603 [eR (.ref (lid c' (r + 8) (cnt s 64))), eR (.ref (vo v))] c') fun v12 h11 => bV (cC (dc + 80) 2600 [eR (.ref a), eR v12] h11) fun h13 => some (.inl (some (eR (.ref a))), h13)) :
    PX χ n t r f p vo Op Oa Ou E O c s H D (bV (cC (dc + 80) 1001 [eR (.ref (r + 16))] (ptC c r)) fun h3 => cnw h3 26 fun v4 h5 => kk v4 h5)
      (bI (cT (dt + 31) 67 [eR (.ref 0), eI 2, eI (Int32.ofNat v), eI 0] (capA 60 s (cnt s 64) v)) fun v3 h2 => some (.inl (some (eI v3)), h2)) := by
  have hz := RP_len hR
  have hfi := hR.2.1
  have hn62 := hR.2.2.2.1.2.1.2.2.2.2.2
  have n65 : cnt (ptT s) 65 = cnt s 65 := rfl
  have hok62 := hR1.2.2.2.1.2.1.1.1.2
  have hcap := capA_th 60 s (cnt s 64) v
  obtain ⟨e47, hB1, k68, k69⟩ := BS_node (dt + 29) (E := E) (X := 60) (K := 2) hz hR1 hST1 (fun _ _ => rfl) (KS_pt s) (by decide) (Int32.ofNat v) 0 (by rw [h62, n65]; omega)
  have hnd := nd_th (ptT s) (Int32.ofNat 2) (Int32.ofNat v) 0
  have hcnd := capA_nd s (Int32.ofNat 2) (Int32.ofNat v) 0 60 (cnt s 64) v
  -- the reference's part and node
  have c62 : tI s 62 ≠ 400 := fun q => by
    have e : cnt s 62 = 400 := cnt_of q (by decide)
    omega
  have e46 : cT (dt + 30) 46 [eR (.ref 0)] (capA 60 s (cnt s 64) v) = some (.inl (some (eI 1)), ptT (capA 60 s (cnt s 64) v)) := by
    have a6 : tI (capA 60 s (cnt s 64) v) 6 = 0 := (th_I hcap (by decide)).trans hfi
    have a62 : tI (capA 60 s (cnt s 64) v) 62 = tI s 62 := th_I hcap (by decide)
    rw [t_counts (dt + 27), if_pos a6, if_neg (by rw [a62]; exact c62)]
    rfl
  have e47' : cT (dt + 30) 47 [eR (.ref 0), eI 2, eI (Int32.ofNat v), eI 0] (ptT (capA 60 s (cnt s 64) v)) = some (.inl (some (eI (Int32.ofNat (cnt s 65)))), ndT (ptT (capA 60 s (cnt s 64) v)) (Int32.ofNat 2) (Int32.ofNat v) 0) := by
    have a65 : tI (ptT (capA 60 s (cnt s 64) v)) 65 = tI s 65 := th_I hcap (by decide)
    have b65 : cnt (ptT (capA 60 s (cnt s 64) v)) 65 = cnt s 65 := th_cnt hcap (by decide)
    rw [← b65]
    exact t_node (dt + 29) 2 (Int32.ofNat v) 0 (by rw [a65, b65]; exact hR.2.2.2.1.2.1.2.2.2.2.1.1) (by rw [b65]; omega)
  rw [kX7_simple, uX7_simple, e46, b_I, if_neg (by decide), e47', b_I, ← hcnd, a_IV]
  simp only [b_I]
  have hthq := capA_th 60 (ndT (ptT s) (Int32.ofNat 2) (Int32.ofNat v) 0) (cnt s 64) v
  have hn1 : cNx (ptC c r) = cNx c := rfl
  have hn2 : cSl (ptC c r) = cSl c := rfl
  rcases P_nextO (dc + 60) (dt + 10) hB1.1 (q := capA 60 (ndT (ptT s) (Int32.ofNat 2) (Int32.ofNat v) 0) (cnt s 64) v) ((th_I hthq (by decide)).trans hB1.1.2.1) (fun x _ => th_I hthq (by simp)) (fun k => th_A hthq (by decide) k) with hb | ⟨c2, z, p2, f2, e5, e6, hzq, hW⟩
  · left
    exact j_lx hb (f1 := f) (by omega) (by omega) (fun s' q2 => ⟨_, _, rfl, rfl, rfl⟩)
  obtain ⟨hB2, hp2⟩ := BS_tok hz hB1 hW
  have htok : tI (ndT (ptT s) (Int32.ofNat 2) (Int32.ofNat v) 0) 8 ≠ 0 := by rw [th_I hnd (by decide)]; exact h8
  obtain ⟨hS2, hS2'⟩ := WK_ST hB1.1 hW
  obtain ⟨m1, m2, m3⟩ := hS2' htok
  have hth2 := hW.2.2.2.1
  have hz2 : z = capA 60 (ov z (ndT (ptT s) (Int32.ofNat 2) (Int32.ofNat v) 0)) (cnt s 64) v := by
    rw [capA_all, ← capA_nd]
    exact hzq.symm
  rw [e5, e6, b_V, b_V, r_cnw]
  have hA2 : ∀ x, x ∈ [40, 51, 55, 57] → ∀ k, tA (ov z (ndT (ptT s) (Int32.ofNat 2) (Int32.ofNat v) 0)) x k = tA s x k := fun x hx k => by
    rw [th_A hth2 (by simp) k, th_A hnd (by simp only [List.mem_cons, List.not_mem_nil, or_false] at hx ⊢; omega) k]; rfl
  have hI2 : ∀ x, x ∈ [35, 50, 56, 62, 64] → cnt (ov z (ndT (ptT s) (Int32.ofNat 2) (Int32.ofNat v) 0)) x = cnt (ptT s) x := fun x hx => by
    rw [th_cnt hth2 (by simp only [List.mem_cons, List.not_mem_nil, or_false] at hx ⊢; omega), th_cnt hnd (by simp only [List.mem_cons, List.not_mem_nil, or_false] at hx ⊢; omega)]
  have k68' : tA (ov z (ndT (ptT s) (Int32.ofNat 2) (Int32.ofNat v) 0)) 68 (cnt (ptT s) 65) = Int32.ofNat v := (th_A hth2 (by simp) _).trans k68
  rw [n65] at hB2 k68'
  generalize hs2 : ov z (ndT (ptT s) (Int32.ofNat 2) (Int32.ofNat v) 0) = s2 at *
  have a56 : cnt s2 56 = cnt s 56 := hI2 56 (by simp)
  have a64 : cnt s2 64 = cnt s 64 := hI2 64 (by simp)
  have a50 : cnt s2 50 = cnt s 50 := hI2 50 (by simp)
  have hR2 := hB2.1
  have hn0 := hR2.2.2.1
  have hnw : cmore (csCl c2 (cNx c2) 26) (csz 26) = nwC c2 26 := rfl
  have hRn := P_new 26 hR2
  have hKn := KC_new hn0 hR2.2.2.2.1.1 26
  have hcuz := hR2.2.2.2.1.2.2.2.2.2.2.2.1.1
  have hancA : ∀ w x, anc s2 60 w x = anc s 60 w x := fun w x => by
    have aux : ∀ g w, anc s2 g w x = anc s g w x := fun g => by
      induction g with
      | zero => intro w; rfl
      | succ g ih => intro w; unfold anc; rw [hA2 40 (by simp), ca_eq (hA2 40 (by simp) w), ih]
    exact aux 60 w
  have hvis2 : visV s2 v := by
    rcases hvis with ⟨j, j1, j2⟩ | ⟨q, q1, q2, q3⟩
    · exact Or.inl ⟨j, by omega, by rw [ca_eq (hA2 57 (by simp) j)]; exact j2⟩
    · exact Or.inr ⟨q, by rw [hA2 40 (by simp)]; exact q1, by rw [hancA, a64]; exact q2, by rw [ca_eq (hA2 55 (by simp) q)]; exact q3⟩
  have hanc2 : anc s2 60 (cnt s2 64) (ca s2 51 v) := by rw [hancA, a64, ca_eq (hA2 51 (by simp) v)]; exact hanc
  have hO := chO_of hRn (v := v) (by rw [a50]; exact hv) 60 (cnt s2 64) hcuz.2.1 hanc2
  obtain ⟨c3, o3, e3, hR3, hKC3, hKT3, hKS3, hvR3, hraw3, nx3, sl3, old3⟩ := P_reach (dc + 7) 60 (cnt s2 64) (nwC c2 26) s2 hO hRn hcuz.2.1 (Or.inl rfl) (by rw [a50]; exact hv) hvis2
  have hth3 := capA_th 60 s2 (cnt s2 64) v
  rw [a64] at e3 hR3 hKT3 hKS3 hvR3 hth3
  rw [← hz2] at hR3 hKT3 hKS3 hvR3 hth3
  rw [hnw, hkk _ _ _ _ _ _ _ hRn hA2 a56 a64]
  have e3' : cC (dc + 80) 1603 [eR (.ref (lid (nwC c2 26) (r + 8) (cnt s 64))), eR (.ref (vo v))] (nwC c2 26) = _ := e3
  rw [e3', b_R]
  have ha2 : cCl c2 (cNx c2) = 0 := (hn0 _ (Nat.le_refl _)).1
  have ha3 : cCl c3 (cNx c2) = 26 := kc_cl hKC3 (nw_cl c2 26) (by decide)
  have e20 := c_use (dc + 69) (o := o3) ha3
  have e20' : cC (dc + 80) 2600 [eR (.ref (cNx c2)), eR (.ref o3)] c3 = _ := e20
  have hcl5 := cC_cln e20 hR3.2.2.1
  have hl23 : (cLs c2 (r + 8)).length ≤ (cLs (nwC c2 26) (r + 8)).length := Nat.le_refl _
  have hKC23 : KC r c2 c3 := KC_trans hl23 hKn hKC3
  have hKC25 : KC r c2 (csR c3 2600 (cNx c2) (.ref o3)) := KC_R ha2 hKC23
  have hch5 : CH xI [] xR [] c3 (csR c3 2600 (cNx c2) (.ref o3)) := CH_R (Or.inl (by decide)) (CH_refl _ _ _ _ c3) (by decide)
  have hRf := RP_mix hR2 hR3 hKC25 hKT3 hch5 (fun _ _ _ => ⟨rfl, rfl⟩) hcl5 (th_cnt hth3 (by decide)) (by rw [th_cnt hth3 (by decide)]; exact Nat.le_refl _)
    (fun k hk ho => by
      show cR (csR c3 2600 (cNx c2) (.ref o3)) 1611 _ = _
      rw [g_R_R, if_neg (fun q => by omega)]
      exact old3 1611 _ (by
        have hk1 : k < cnt s2 35 := hk
        have w := (RUt_cap hR2.2.2.2.1.2.2.2.2.2.1 hk1).2.2.2
        have w2 : cCl (nwC c2 26) (lid c2 (r + 8) k) = 16 := by
          show cCl (csCl c2 (cNx c2) 26) _ = _
          rw [g_Cl_Cl, if_neg (by rintro q; rw [q, ha2] at w; cases w)]; exact w
        rw [w2]; decide)) (fun k _ _ => th_A hth3 (by decide) k) (fun y _ _ zz hzz => th_A hth3 (by simp only [List.mem_cons, List.not_mem_nil, or_false] at hzz ⊢; omega) y)
  have hnx5 : cNx (csR c3 2600 (cNx c2) (.ref o3)) = cNx c3 := rfl
  have hsl5 : cSl (csR c3 2600 (cNx c2) (.ref o3)) = cSl c3 := rfl
  have hnxn : cNx (nwC c2 26) = cNx c2 + 1 := rfl
  have hsln : cSl (nwC c2 26) = cSl c2 + 1 := rfl
  have ha0 : cCl c (cNx c2) = 0 := (hR.2.2.1 _ hB2.2.1.1.1).1
  have hraw5 : ∀ b, raw c b → raw (csR c3 2600 (cNx c2) (.ref o3)) b := raw_R ha0 (fun b q => hraw3 b (nw_raw hn0 26 b (hB2.2.1.2.2.2.2.2.2 b q)))
  have hB5 := BS_go hz hB2 hRf hKC25 hKT3 (fun _ _ => rfl) (fun y _ zz hzz _ => th_A hth3 (by simp only [List.mem_cons, List.not_mem_nil, or_false] at hzz ⊢; omega) y) (TH_refl _ _ _ _ s) (KS_trans hB2.2.2.2.2.2.1 hKS3) (by omega) (by omega) (by omega) hraw5
  have g1 : cCl (csR c3 2600 (cNx c2) (.ref o3)) (cNx c2) = 26 := ha3
  have g2 : cR (csR c3 2600 (cNx c2) (.ref o3)) 2600 (cNx c2) = .ref o3 := by rw [g_R_R, if_pos ⟨rfl, rfl⟩]
  have hvR5 : vR r vo (csR c3 2600 (cNx c2) (.ref o3)) z (cnt s 64) v o3 := hvR3
  rw [e20', b_V]
  generalize csR c3 2600 (cNx c2) (.ref o3) = c5 at *
  obtain ⟨r1, r2, r3, r4, r5⟩ := BS_root hB5 (by decide)
  have hU5 := hB5.1.2.2.2.1.2.2.2.2.2.1
  have hV5 := hB5.1.2.2.2.1.2.2.2.2.2.2.1
  have huse := useOK_vR hV5 (u := cnt s 64) (v := v) (o := o3) (by rw [th_cnt hth3 (by decide), ← a64]; exact hcuz.2.1) hU5.1.2 (by rw [th_cnt hth3 (by decide), a50]; exact hv) hvR5
  have k68z : tA z 68 (cnt s 65) = Int32.ofNat v := (th_A hth3 (by decide) _).trans k68'
  right
  refine ⟨cNx c2, cnt s 65, c5, z, p2, f2, rfl, rfl, BS_fin (g := 1) hz hW.2.1 hB5 ?_ (KC_refl r c5) (by omega) (by omega) hraw5 ?_⟩
  · rw [← Nat.add_assoc]
    exact P_close0 hB5.1 (by rw [r5]; decide)
  · refine Or.inr ⟨r1, r2, r3, r4, hH, by omega, ?_⟩
    exact Or.inr (Or.inl ⟨g1, r5, hB5.2.2.2.2.2.2.2.2.2.1, o3, v, g2, k68z, huse⟩)
end
