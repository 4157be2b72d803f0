set_option maxRecDepth 100000
set_option maxHeartbeats 4000000
/-! D84: a variable by its name; self -/
section
variable {χ : Nat → Int32} {n t r : Nat} {Oa Ou : Nat → Prop} {O : Nat}
theorem d_1 {k : Nat} (hk : k < 1000000) : Int32.ofNat (k + 1) - 1 = Int32.ofNat k := by rw [show (1 : Int32) = Int32.ofNat 1 from rfl, z_sub (by omega)]; rfl
theorem d_m {k : Nat} : Int32.ofNat k + (-1) = Int32.ofNat k - 1 := (Int32.sub_eq_add_neg (Int32.ofNat k) 1).symm
theorem var_loop (d e : Nat) {p f : Nat} {vo : Nat → Nat} {Op : Nat → Prop} {E : Nat} {c : cS} {s s' : tS} (hR : RP χ n t r p f vo Op Oa Ou E O c s) (h8 : tI s 8 = 1) (hA : tA s' = tA s) (hB : tB s' = tB s) (hL : tL s' 12 = tL s 12) :
    ∀ k, k ≤ cnt s 56 → (∃ j, j < cnt s 56 ∧ fX8_variable_8 (cC (d + 9)) (.ref r) (Int32.ofNat k - 1) c = fX8_variable_23 (cC (d + 9)) (.ref r) (Int32.ofNat j) c ∧ fX7_variable_7 (cT e) (-1) (Int32.ofNat k - 1) s' = fX7_variable_32 (cT e) (Int32.ofNat (ca s 57 j)) s') ∨
      (fX8_variable_8 (cC (d + 9)) (.ref r) (Int32.ofNat k - 1) c = fX8_variable_23 (cC (d + 9)) (.ref r) (-1) c ∧ fX7_variable_7 (cT e) (-1) (Int32.ofNat k - 1) s' = fX7_variable_32 (cT e) (-1) s') := by
  have hS := hR.2.2.2.1.1
  have hV := hR.2.2.2.1.2.2.2.2.2.2.1
  obtain ⟨_, _, ⟨i3, i4, i5⟩, _⟩ := hR.2.2.2.1.2.2.2.2.2.2.2.1
  have h12 := i3.2
  have h5 := hV.1.2
  have hab := (lw_1 hR.1.2.2.2.2.2 h8).2
  have hw : cCl c (r + 16) = 10 := hR.1.1.1.1
  intro k
  induction k with
  | zero =>
    intro _
    right
    have e0 : Int32.ofNat 0 - 1 = (-1 : Int32) := by decide
    rw [e0, uX8_variable_8, if_pos (by decide), uX7_variable_7, if_pos (by decide)]
    exact ⟨rfl, rfl⟩
  | succ k ih =>
    intro hk
    obtain ⟨a1, a2, a3, a4, _⟩ := i5 k (by omega)
    have hc := (hV.2.1 _ a2).1
    have hiff := nm_eq a4 hab
    have eC : fX8_variable_8 (cC (d + 9)) (.ref r) (Int32.ofNat k) c = if cL c 1700 (vo (ca s 57 k)) = cL c 1007 (r + 16) then fX8_variable_23 (cC (d + 9)) (.ref r) (Int32.ofNat k) c else fX8_variable_8 (cC (d + 9)) (.ref r) (Int32.ofNat k + (-1)) c := by
      rw [uX8_variable_8, if_neg (ofNat_nn (by omega)), r_cgR, if_pos hS.1, hS.2.2.2.1, c_get d (RSt_vL hS) rfl (by rw [i4]; omega) (by omega), b_R, a3, r_castR, if_pos (Or.inl hc), r_cgL, if_pos hc, RP_800 hR, r_cgL, if_pos hw]
      simp only [lg_cmp_eq]
    have e57 : tA s' 57 k = Int32.ofNat (ca s 57 k) := by rw [hA]; exact a1.1
    have eT : fX7_variable_7 (cT e) (-1) (Int32.ofNat k) s' = if tB s 52 (ca s 57 k) = tL s 12 then fX7_variable_7 (cT e) (Int32.ofNat (ca s 57 k)) (Int32.ofNat k + (-1)) s' else fX7_variable_7 (cT e) (-1) (Int32.ofNat k + (-1)) s' := by
      rw [uX7_variable_7, if_neg (ofNat_nn (by omega)), if_pos rfl, q_57 (by omega), e57, q_52 (by omega), hL, hB, q_57 (by omega), e57]
      simp only [lg_cmp_eq]
    rw [d_1 (by omega), eC, eT]
    by_cases q : tB s 52 (ca s 57 k) = tL s 12
    · left
      refine ⟨k, by omega, if_pos (hiff.2 q), ?_⟩
      rw [if_pos q, uX7_variable_7]
      by_cases w : Int32.ofNat k + (-1) < 0
      · rw [if_pos w]
      · rw [if_neg w, if_neg (by rw [ofNat_ne_m1 (by omega)]; exact id)]
    · rw [if_neg (fun w => q (hiff.1 w)), if_neg q, d_m]
      exact ih (by omega)
theorem S_var (dc dt : Nat) {H D lv : Nat} (hH : 1 ≤ H) (vo : Nat → Nat) (Op : Nat → Prop) (E p f : Nat) (c : cS) (s : tS) (hlv : cnt s 63 = lv) (hR : RP χ n t r p f vo Op Oa Ou E O c s) (h8 : tI s 8 = 1) :
    PX χ n t r f p vo Op Oa Ou E O c s H D (cC (dc + 81) 833 [eR (.ref r)] c) (cT (dt + 32) 65 [eR (.ref 0)] s) := by
  have hS := hR.2.2.2.1.1
  have hfi := hR.2.1
  have hI := hR.2.2.2.1.2.2.2.2.2.2.2.1
  have hV := hR.2.2.2.1.2.2.2.2.2.2.1
  have h5 := hV.1.2
  have h56 := hI.2.2.1.1
  have h12 := h56.2
  rw [kX8_variable, r_cck, if_pos hS.1, uX8_variable, kX7_variable, uX7_variable]
  rcases P_part (dc + 65) (dt + 28) hR with ⟨a9, c9, s9, k9, pl9, w1, w2, w3, w4, w5, w6, w7, w8⟩ | ⟨e1, e2, hR1, hST1, h62⟩
  · left
    rw [t_counts (dt + 28), if_pos hfi] at w2
    have q : tI s 62 = 400 := Decidable.byContradiction (fun q => by
      rw [if_neg q] at w2
      have w := congrArg (fun x : tR => bI x fun v _ => some (.inl (some (eI v)), s)) w2
      simp only [b_I] at w
      have w' := congrArg (fun x : tR => bI x fun v _ => if v = 0 then none else some (.inl none, s)) w
      simp [b_I] at w')
    rw [if_pos q] at w2
    have h9 : s9 = tsI (fH s 4 (tI s 9)) 62 (tI s 62 + 1) := by
      have w := congrArg (fun x : tR => match x with | some (_, h) => h | none => s) w2
      exact w.symm
    have z6 : tI s9 6 = tI (fH s 4 (tI s 9)) 6 := by rw [h9, t_I_I, if_neg (by decide)]
    have z7 : tI s9 7 = tI (fH s 4 (tI s 9)) 7 := by rw [h9, t_I_I, if_neg (by decide)]
    have e32 : ∀ x, fX7_variable_32 (cT (dt + 31)) x s = some (.inl (some (eI 0)), fH s 4 (tI s 9)) := fun x => by
      rw [uX7_variable_32, if_pos q, t_fails (dt + 29), b_V]
    have eR : fX7_variable_7 (cT (dt + 31)) (-1) (tI s 56 - 1) s = some (.inl (some (eI 0)), fH s 4 (tI s 9)) := by
      rw [h56.1]
      rcases var_loop dc (dt + 31) hR h8 rfl rfl rfl (cnt s 56) (Nat.le_refl _) with ⟨j, _, _, e⟩ | ⟨_, e⟩
      · rw [e, e32]
      · rw [e, e32]
    rw [w1, b_Vx, eR]
    exact ⟨a9, c9, 0, _, k9, pl9, rfl, rfl, w3, by rw [← z6]; exact w4, by rw [← z7]; exact w5, w6, by omega, by omega⟩
  have c62 : tI s 62 ≠ 400 := fun q => by
    have e : cnt s 62 = 400 := cnt_of q (by decide)
    have := hR1.2.2.2.1.2.1.1.1.2
    omega
  have hS1 := hR1.2.2.2.1.1
  have hI1 := hR1.2.2.2.1.2.2.2.2.2.2.2.1
  have h81 : tI (ptT s) 8 = 1 := h8
  rw [e1, b_V, r_cgR, if_pos hS1.1, hS1.2.2.2.1, c_len (dc + 71) (RSt_vL hS1) rfl, b_I, hI1.2.2.1.2.1, h56.1]
  rcases var_loop (dc + 71) (dt + 31) (s' := s) hR1 h81 rfl rfl rfl (cnt s 56) (Nat.le_refl _) with ⟨j, j1, j2, j3⟩ | ⟨j2, j3⟩
  · have j1' : j < cnt s 56 := j1
    obtain ⟨a1, a2, a3, a4, a5⟩ := hI.2.2.1.2.2 j j1'
    have hv : ca s 57 j < cnt s 50 := a2
    have hO := chO_of hR hv 60 (cnt s 64) hI.1.2.1 a5
    have em : cC (dc + 80) 803 [eR (.ref r), eI 1, eI 3] (ptC c r) = some (.inl none, ptC c r) := (c_must (dc + 66) true 3 hS1.1 hS1.2.1 hR1.1.1.1.1 hR1.1.1.2.2.2.2.1.1).trans (if_pos rfl)
    have j2' : fX8_variable_8 (cC (dc + 80)) (.ref r) (Int32.ofNat (cnt (ptT s) 56) - 1) (ptC c r) = fX8_variable_23 (cC (dc + 80)) (.ref r) (Int32.ofNat j) (ptC c r) := j2
    rw [j2', j3, uX8_variable_23, if_neg (ofNat_nn (by omega)), uX8_variable_29, em, b_V, RP_800 hR1, uX7_variable_32, if_neg c62]
    have e57 : ca (ptT s) 57 j = ca s 57 j := rfl
    rw [e57, if_neg (by rw [ofNat_ne_m1 (by omega)]; exact id), t_captures (dt + 30) (by omega) hI.1.1.1 hO, b_V]
    refine J_use (v := ca s 57 j) dc dt hH hR hR1 hST1 h62 (by rw [h8]; decide) hv (Or.inl ⟨j, j1', rfl⟩) a5 (fun c' s' p' f' Op' E' a hR' hA' h56' h64' => ?_)
    have hS' := hR'.2.2.2.1.1
    have hI' := hR'.2.2.2.1.2.2.2.2.2.2.2.1
    have hV' := hR'.2.2.2.1.2.2.2.2.2.2.1
    obtain ⟨_, b2, b3, _, _⟩ := hI'.2.2.1.2.2 j (by rw [h56']; exact j1')
    have ev : ca s' 57 j = ca s 57 j := ca_eq (hA' 57 (by simp) j)
    rw [ev] at b2 b3
    rw [r_cgR, if_pos hS'.1, hI'.1.2.2, h64', r_cgR, if_pos hS'.1, hS'.2.2.2.1, c_get (dc + 71) (RSt_vL hS') rfl (by rw [hI'.2.2.1.2.1, h56']; exact j1') (by omega), b_R, b3, r_castR, if_pos (Or.inl (hV'.2.1 _ b2).1)]
  · left
    have em : cC (dc + 80) 803 [eR (.ref r), eI 0, eI 3] (ptC c r) = some (.inr (.ref (cNx (ptC c r))), wH (ptC c r) 3 (cI (ptC c r) 1005 (r + 16))) := (c_must (dc + 66) false 3 hS1.1 hS1.2.1 hR1.1.1.1.1 hR1.1.1.2.2.2.2.1.1).trans (if_neg (by decide))
    obtain ⟨_, _, _, z4, z5⟩ := lx_mis hR.1 hR.2.1 3 (by decide)
    have j2' : fX8_variable_8 (cC (dc + 80)) (.ref r) (Int32.ofNat (cnt (ptT s) 56) - 1) (ptC c r) = fX8_variable_23 (cC (dc + 80)) (.ref r) (-1) (ptC c r) := j2
    rw [j2', j3, uX8_variable_23, if_pos (by decide), uX8_variable_29, em, b_Vx, uX7_variable_32, if_neg c62, if_pos rfl, t_fails (dt + 29), b_V]
    exact j_mis hR1 3 (by decide) (Nat.le_refl _) (Nat.le_refl _) (s1 := fH s 3 (tI s 9)) rfl rfl rfl ⟨z4, z5⟩
theorem self_loop (e : Nat) {c : cS} {s : tS} {p f E : Nat} {vo : Nat → Nat} {Op : Nat → Prop} (hR : RP χ n t r p f vo Op Oa Ou E O c s) {q : Nat} (hq : tA s 40 q = -1) : ∀ g u, u < cnt s 35 → anc s g u q → fX7_selfAtom_3 (cT e) (Int32.ofNat u) s = fX7_selfAtom_3 (cT e) (Int32.ofNat q) s := by
  have hU := hR.2.2.2.1.2.2.2.2.2.1
  have h60 := hU.1.2
  intro g
  induction g with
  | zero => intro u _ h; exact h.elim
  | succ g ih =>
    intro u hu h
    unfold anc at h
    rcases h with h | ⟨a1, a2⟩
    · rw [h]
    · have e40 : tA s 40 u = Int32.ofNat (ca s 40 u) := by
        rcases (hU.2.2 u hu).2.2.1 with z | ⟨z, _⟩
        · exact absurd z.1 a1
        · exact z.1
      have := u_out hU hu a1
      rw [uX7_selfAtom_3, q_40 (by omega), if_neg a1, q_40 (by omega), e40]
      exact ih _ (by omega) a2
theorem S_self (dc dt : Nat) {H D lv : Nat} (hH : 1 ≤ H) (vo : Nat → Nat) (Op : Nat → Prop) (E p f : Nat) (c : cS) (s : tS) (hlv : cnt s 63 = lv) (hR : RP χ n t r p f vo Op Oa Ou E O c s) (h8 : tI s 8 ≠ 0) :
    PX χ n t r f p vo Op Oa Ou E O c s H D (bV (cC (dc + 80) 818 [eR (.ref r)] c) fun h21 => cgR h21 800 (.ref r) fun v22 => bV (cC (dc + 80) 1001 [eR v22] h21) fun h23 => cnw h23 26 fun v24 h25 => cgR h25 803 (.ref r) fun v26 => cgR h25 804 (.ref r) fun v27 => bR (cC (dc + 80) 1603 [eR v26, eR v27] h25) fun v29 h28 => bV (cC (dc + 80) 2600 [eR v24, eR v29] h28) fun h30 => some (.inl (some (eR v24)), h30)) (cT (dt + 32) 68 [eR (.ref 0)] s) := by
  have hS := hR.2.2.2.1.1
  have hfi := hR.2.1
  have hI := hR.2.2.2.1.2.2.2.2.2.2.2.1
  have hU := hR.2.2.2.1.2.2.2.2.2.1
  have h60 := hU.1.2
  obtain ⟨⟨q1, q2, q2'⟩, _, _, q, q7, q8, q9, q10, q11, q12, q13, q14⟩ := id hI
  have h499 := q10.2
  have e55 : tA s 55 q = Int32.ofNat (ca s 55 q) := q10.1
  rw [kX7_selfAtom, uX7_selfAtom, q1.1, self_loop (dt + 31) hR q8 60 (cnt s 64) q2 q9, uX7_selfAtom_3, q_40 (by omega), if_pos q8]
  rcases P_part (dc + 65) (dt + 28) hR with ⟨a9, c9, s9, k9, pl9, w1, w2, w3, w4, w5, w6, w7, w8⟩ | ⟨e1, e2, hR1, hST1, h62⟩
  · left
    rw [t_counts (dt + 28), if_pos hfi] at w2
    have qq : tI s 62 = 400 := Decidable.byContradiction (fun q => by
      rw [if_neg q] at w2
      have w := congrArg (fun x : tR => bI x fun v _ => if v = 0 then none else some (.inl none, s)) w2
      simp [b_I] at w)
    rw [if_pos qq] at w2
    have h9 : s9 = tsI (fH s 4 (tI s 9)) 62 (tI s 62 + 1) := by
      have w := congrArg (fun x : tR => match x with | some (_, h) => h | none => s) w2
      exact w.symm
    have z6 : tI s9 6 = tI (fH s 4 (tI s 9)) 6 := by rw [h9, t_I_I, if_neg (by decide)]
    have z7 : tI s9 7 = tI (fH s 4 (tI s 9)) 7 := by rw [h9, t_I_I, if_neg (by decide)]
    rw [w1, b_Vx, if_pos qq, t_fails (dt + 29), b_V]
    exact ⟨a9, c9, 0, _, k9, pl9, rfl, rfl, w3, by rw [← z6]; exact w4, by rw [← z7]; exact w5, w6, by omega, by omega⟩
  have c62 : tI s 62 ≠ 400 := fun q => by
    have e : cnt s 62 = 400 := cnt_of q (by decide)
    have := hR1.2.2.2.1.2.1.1.1.2
    omega
  have hanc : anc s 60 (cnt s 64) (ca s 51 (ca s 55 q)) := by rw [q12]; exact q9
  have hO := chO_of hR q11 60 (cnt s 64) q2 hanc
  have hth := capA_th 60 s (cnt s 64) (ca s 55 q)
  rw [e1, b_V, RP_800 hR1, if_neg c62, q_55 (by omega), e55, t_captures (dt + 30) (by omega) q1.1 hO, b_V, q_55 (by omega), th_A hth (by decide), e55]
  refine J_use (v := ca s 55 q) dc dt hH hR hR1 hST1 h62 h8 q11 (Or.inr ⟨q, q8, q9, rfl⟩) hanc (fun c' s' p' f' Op' E' a hR' hA' h56' h64' => ?_)
  have hS' := hR'.2.2.2.1.1
  obtain ⟨⟨_, _, y3⟩, _, _, q', _, x2, x3, _, _, _, x7, _⟩ := hR'.2.2.2.1.2.2.2.2.2.2.2.1
  have hqq : q' = q := by
    have hancA : ∀ g w x, anc s' g w x = anc s g w x := fun g => by
      induction g with
      | zero => intro w x; rfl
      | succ g ih => intro w x; unfold anc; rw [hA' 40 (by simp), ca_eq (hA' 40 (by simp) w), ih]
    rw [hA' 40 (by simp)] at x2
    rw [hancA, h64'] at x3
    exact anc_root q' q x2 q8 _ _ x3 q9
  rw [hqq, ca_eq (hA' 55 (by simp) q)] at x7
  rw [r_cgR, if_pos hS'.1, y3, h64', r_cgR, if_pos hS'.1, x7]
end
