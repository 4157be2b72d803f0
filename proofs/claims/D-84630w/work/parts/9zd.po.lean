set_option maxRecDepth 100000
set_option maxHeartbeats 4000000
/-! D78: postfixes -/
theorem n10 : ¬ ((1 : Int32) = 0) := by decide
section
variable {χ : Nat → Int32} {n t r : Nat} {Op Oa Ou : Nat → Prop} {E O : Nat}
variable {f0 p0 : Nat} {vo0 : Nat → Nat} {c0 : cS} {s0 : tS}
theorem F_post5 (d : Nat) (y v : Int32) {s : tS} (h : tI s 6 ≠ 0) : fX7_postfix_5 (cT (d + 1)) y v s = some (.inl (some (eI y)), s) := by
  rw [uX7_postfix_5]
  by_cases q : v = 0
  · rw [if_pos q]
  · rw [if_neg q, F_fine d h, b_I, if_pos rfl]
theorem t_post0 (d : Nat) (y : Int32) (s : tS) : fX7_postfix_5 (cT d) y 0 s = some (.inl (some (eI y)), s) := by
  rw [uX7_postfix_5, if_pos rfl]
/-- behind the reference's dot -/
noncomputable def dotK (d : Nat) (y : Int32) (h7 : tS) : tR := bI (cT d 7 [eR (.ref 0)] h7) fun v10 h9 => if v10 = 0 then fX7_postfix_5 (cT d) y 0 h9 else taI h9 66 y fun v11 => if v11 = (6 : Int32) then fX7_postfix_5 (cT d) y 0 h9 else fX7_postfix_5 (cT d) y 1 h9
theorem F_dotK (d : Nat) (y : Int32) : FH (dotK (d + 1) y) := fun s h => by
  unfold dotK
  rw [F_fine d h, b_I, if_pos rfl, t_post0]
  exact ⟨_, _, rfl, rfl, rfl⟩
theorem dotK_go (d : Nat) {N : Nat} (hN : N < 900) {s : tS} (hfi : tI s 6 = 0) : dotK (d + 1) (Int32.ofNat N) s = if tA s 66 N = (6 : Int32) then some (.inl (some (eI (Int32.ofNat N))), s) else fX7_postfix_5 (cT (d + 1)) (Int32.ofNat N) 1 s := by
  unfold dotK
  rw [t_fine d, b_I, hfi, decide_eq_true rfl, bi_t, if_neg (by decide), q_66 hN, t_post0]
/-- the reference behind the name -/
noncomputable def dotN (d : Nat) (x v7 : Int32) (h8 : tS) : tR := bI (cT d 27 [eR (.ref 0), eI 256] h8) fun v10 h9 => if v10 = 0 then bI (cT d 27 [eR (.ref 0), eI 40] h9) fun v12 h11 => if v12 = 0 then fX7_dotted_35 (cT d) x v7 v10 5 h11 else fX7_dotted_35 (cT d) x v7 v10 7 h11 else fX7_dotted_35 (cT d) x v7 v10 6 h9
theorem F_dotN (d d2 : Nat) (x v : Int32) {s : tS} (h : tI s 6 ≠ 0) (h65 : tI s 65 = Int32.ofNat (cnt s 65)) (h9 : cnt s 65 < 900) : ∃ q s'', bI (dotN (d + 31) x v s) (dotK (d2 + 1)) = some (.inl (some (eI q)), s'') ∧ tI s'' 6 = tI s 6 ∧ tI s'' 7 = tI s 7 := by
  unfold dotN
  have hth := nd_th s 5 v 0
  have h' : tI (ndT s 5 v 0) 6 ≠ 0 := by rw [th_I hth (by decide)]; exact h
  rw [F_isSign (d + 29) _ h, b_I, if_pos rfl, F_isSign (d + 29) _ h, b_I, if_pos rfl, uX7_dotted_35, t_node (d + 30) _ _ _ h65 h9, b_I, F_gets (d + 29) _ _ h', b_V, if_pos rfl, F_isSign (d + 29) _ h', b_I, if_pos rfl, b_I]
  obtain ⟨q, s'', q1, q2, q3⟩ := F_dotK d2 (Int32.ofNat (cnt s 65)) (ndT s 5 v 0) h'
  exact ⟨q, s'', q1, q2.trans (th_I hth (by decide)), q3.trans (th_I hth (by decide))⟩
theorem post_step (dc dt : Nat) {H D lv pz Ez Oz p f a x : Nat} {c : cS} {s : tS} (hH : 4 ≤ H) (hsubA : SP χ n t r Oa Ou O lv (H - 3) D (dc + 30) 813 (dt + 31) 40) (hsubB : SP χ n t r Oa Ou O lv (H - 3) D (dc + 30) 813 (dt + 30) 40) (hsubW : SP χ n t r Oa Ou O lv (H - 1) D (dc + 31) 829 (dt + 31) 57) (hlv : cnt s0 63 = lv) (hR0 : RP χ n t r pz f0 vo0 Op Oa Ou Ez Oz c0 s0)
    (hX : PXo χ n t r f0 p0 vo0 Op Oa Ou E O c0 s0 H D a x c s p f)
    (hgo : ∀ a' x' c' s' p' f', PXo χ n t r f0 p0 vo0 Op Oa Ou E O c0 s0 H D a' x' c' s' p' f' → f < f' → PX χ n t r f0 p0 vo0 Op Oa Ou E O c0 s0 H D (fX8_postfix_3 (cC (dc + 31)) (.ref r) (.ref a') c') (fX7_postfix_5 (cT (dt + 32)) (Int32.ofNat x') 1 s')) :
    PX χ n t r f0 p0 vo0 Op Oa Ou E O c0 s0 H D (fX8_postfix_3 (cC (dc + 31)) (.ref r) (.ref a) c) (fX7_postfix_5 (cT (dt + 32)) (Int32.ofNat x) 1 s) := by
  have hz := RP_len hR0
  have hX' := hX
  obtain ⟨vo1, g, W, hR1, hST, hvo, hy0, hy1, hT, h71, hKS1, hpf⟩ := hX'
  have hw := hR1.1.1.1.1
  have hfi := hR1.2.1
  have k1 := hST.2.2.2.1
  have k2 := hST.2.2.2.2.1
  rw [uX8_postfix_3, RP_800 hR1, c_isSign (dc + 30) 46 hw, b_I, uX7_postfix_5, if_neg n10, t_fine (dt + 31), b_I, hfi, decide_eq_true rfl, bi_t, if_neg n10, t_isSign (dt + 30), b_I]
  simp only [lx_sgn hR1.1 (x := 46) (by decide), hfi, true_and]
  by_cases h46 : tI s 8 = 5 ∧ tI s 11 = 46
  · have h40 : ¬ (tI s 8 = 5 ∧ tI s 11 = 40) := fun q => by rw [h46.2] at q; exact absurd q.2 (by decide)
    rw [decide_eq_true h46, bi_t, if_neg (by decide), decide_eq_false h40, bi_f, if_pos rfl, t_isSign (dt + 30), b_I, hfi]
    simp only [true_and]
    rw [decide_eq_true h46, bi_t, if_neg (by decide), kX7_dotted, uX7_dotted]
    have ok65 := hR1.2.2.2.1.2.1.2.2.2.2
    have hb62 := hR1.2.2.2.1.2.1.1.1.2
    refine J_dotn (kT := dotN (dt + 31) (Int32.ofNat x)) (kT0 := dotK (dt + 32)) dc dt hR1 k1 k2 (by rw [h46.1]; decide) (fun y => F_dotK (dt + 31) y) (fun v s' q1 q2 => F_dotN dt (dt + 31) _ v q1 (by rw [q2]; unfold cnt; rw [q2]; exact ok65.1.1) (by unfold cnt; rw [q2]; have := ok65.1.2; have := ok65.2; show cnt s 65 < 900; omega)) (fun nma nmb k c4 s4 p4 f4 hnm hR4 hK4 hT4 ho4 h65 h62 hKS4 hraw4 hff hpp m1 m2 hk hk9 hkb => ?_)
    have hw4 := hR4.1.1.1.1
    have hfi4 := hR4.2.1
    have hN9 : cnt s 65 < 900 := by
      have := hR4.2.2.2.1.2.1.2.2.2.2.2
      have := hR4.2.2.2.1.2.1.1.1.2
      have := hR1.2.2.2.1.2.1.2.2.2.2.2
      omega
    have hEq : ∀ K : Nat, K ≤ 42 → ∃ s5, cT (dt + 31) 47 [eR (.ref 0), eI (Int32.ofNat K), eI (Int32.ofNat k), eI 0] s4 = some (.inl (some (eI (Int32.ofNat (cnt s 65)))), ndT s4 (Int32.ofNat K) (Int32.ofNat k) 0) ∧ cT (dt + 31) 49 [eR (.ref 0), eI (Int32.ofNat (cnt s 65)), eI (Int32.ofNat x)] (ndT s4 (Int32.ofNat K) (Int32.ofNat k) 0) = some (.inl none, s5) ∧ s5 = gtT (ndT s4 (Int32.ofNat K) (Int32.ofNat k) 0) (cnt s 65) x [] ∧ BS χ n t r f0 vo0 Op Oa Ou E 60 O c0 s0 (cnt s 65) K [(a, x, H, D, W)] p4 f4 vo1 c4 s5 ∧ tA s5 68 (cnt s 65) = Int32.ofNat k ∧ tA s5 69 (cnt s 65) = 0 := fun K hK =>
      BS_adoptW (dt + 30) (dt + 29) (a := a) (H := H) (D := D) (p2 := p4) (f2 := f4) (c2 := c4) (s2 := s4) (K := K) (k := Int32.ofNat K) (u := Int32.ofNat k) (v := 0) hz hK rfl hR1 hST hvo hy0 hy1 hT h71 hKS1 hR4 (fun _ _ => rfl) hK4 hT4 ho4 h65 h62 hKS4 (by omega) (by omega) (by omega) hraw4
    have fx : ∀ (K : Nat) (s5 : tS), s5 = gtT (ndT s4 (Int32.ofNat K) (Int32.ofNat k) 0) (cnt s 65) x [] → (∀ z, z ≠ 65 → tI s5 z = tI s4 z) ∧ (∀ z, cnt s5 60 = cnt s4 60 ∧ tB s5 61 z = tB s4 61 z) := fun K s5 e => by
      subst e
      have h1 := gt_th (ndT s4 (Int32.ofNat K) (Int32.ofNat k) 0) (cnt s 65) x []
      have h2 := nd_th s4 (Int32.ofNat K) (Int32.ofNat k) 0
      exact ⟨fun z hz' => by rw [th_I h1 (by simp), th_I h2 (by simpa using hz')], fun z => ⟨by rw [th_cnt h1 (by simp), th_cnt h2 (by simp)], by rw [th_B h1 (by simp), th_B h2 (by simp)]⟩⟩
    rw [RP_800 hR4, c_isSign (dc + 30) 40 hw4, b_I]
    unfold dotN
    rw [t_isSign (dt + 29), b_I]
    simp only [lx_sgn hR4.1 (x := 40) (by decide), hfi4, true_and]
    by_cases h40' : tI s4 8 = 5 ∧ tI s4 11 = 40
    · have h256 : ¬ (tI s4 8 = 5 ∧ tI s4 11 = 256) := fun q => by rw [h40'.2] at q; exact absurd q.2 (by decide)
      obtain ⟨s5, e47, e49, g5, hB5, k68, k69⟩ := hEq 7 (by decide)
      obtain ⟨fI, fB⟩ := fx 7 s5 g5
      have e47' : cT (dt + 31) 47 [eR (.ref 0), eI 7, eI (Int32.ofNat k), eI 0] s4 = _ := e47
      have hs5 : tI s5 8 = 5 ∧ tI s5 11 = 40 := ⟨(fI 8 (by decide)).trans h40'.1, (fI 11 (by decide)).trans h40'.2⟩
      rw [decide_eq_true h40', bi_t, if_neg (by decide), decide_eq_false h256, bi_f, if_pos rfl, t_isSign (dt + 29), b_I, hfi4]
      simp only [true_and]
      rw [decide_eq_true h40', bi_t, if_neg (by decide), uX7_dotted_35, e47', b_I, e49, b_V, if_pos rfl, t_isSign (dt + 29), b_I]
      simp only [hs5, (fI 6 (by decide)).trans hfi4, and_self, decide_true, bi_t]
      rw [if_neg (by decide), a_II]
      have hts : ∀ (h6 : tS) (v : Int32), bI (tsaI h6 69 (Int32.ofNat (cnt s 65)) v fun h8 => some (.inl (some (eI (Int32.ofNat (cnt s 65)))), h8)) (dotK (dt + 32)) = tsaI h6 69 (Int32.ofNat (cnt s 65)) v fun h8 => dotK (dt + 32) (Int32.ofNat (cnt s 65)) h8 := fun h6 v => by rw [qs_69 hN9, qs_69 hN9, b_I]
      simp only [hts]
      refine J_send (kC := fun v42 h49 => fX8_postfix_3 (cC (dc + 31)) (.ref r) v42 h49) (kT := fun y h => dotK (dt + 32) y h) dc dt hH (by omega) hsubB hlv hR0 hB5 k68 (by rw [(fB k).1]; exact hk) hk9 (by rw [(fB k).2, hkb]; exact hnm) hs5 (fun y => F_dotK (dt + 31) y) (by omega) (by omega) (fun a' c' s' p' f' hX5 h66 hff5 => ?_)
      have hfi5 : tI s' 6 = 0 := by obtain ⟨_, _, _, hRz, _⟩ := hX5; exact hRz.2.1
      rw [dotK_go (dt + 31) hN9 hfi5, h66, if_neg (by decide)]
      exact hgo _ _ _ _ _ _ hX5 (by omega)
    · rw [decide_eq_false h40', bi_f, if_pos rfl, RP_800 hR4, c_passE (dc + 17) 14909 hw4]
      simp only [lx_bec hR4.1]
      by_cases h256 : tI s4 8 = 5 ∧ tI s4 11 = 256
      · obtain ⟨s5, e47, e49, g5, hB5, k68, k69⟩ := hEq 6 (by decide)
        obtain ⟨fI, fB⟩ := fx 6 s5 g5
        have e47' : cT (dt + 31) 47 [eR (.ref 0), eI 6, eI (Int32.ofNat k), eI 0] s4 = _ := e47
        rw [if_pos h256, decide_eq_true h256, bi_t, if_neg (by decide), uX7_dotted_35, e47', b_I, e49, b_V, if_neg (by decide), a_IV, a_IV]
        simp only [a_II, a_IV, b_I, e10, if_false]
        refine J_write (kT := fun y h => dotK (dt + 32) y h) dc dt (by omega) (by omega) hsubW hlv hz hR0.2.2.1 hB5 k68 (by rw [(fB k).1]; exact hk) hk9 (by rw [fI 8 (by decide), h256.1]; decide) (fun y => F_dotK (dt + 31) y) (fun a' c' s' p' f' hX5 h66 => ?_)
        have hfi5 : tI s' 6 = 0 := by obtain ⟨_, _, _, hRz, _⟩ := hX5; exact hRz.2.1
        rw [dotK_go (dt + 31) hN9 hfi5, h66, if_pos rfl]
        right
        exact ⟨_, _, _, _, _, _, rfl, rfl, hX5⟩
      · obtain ⟨s5, e47, e49, g5, hB5, k68, k69⟩ := hEq 5 (by decide)
        obtain ⟨fI, fB⟩ := fx 5 s5 g5
        have e47' : cT (dt + 31) 47 [eR (.ref 0), eI 5, eI (Int32.ofNat k), eI 0] s4 = _ := e47
        have hs5 : ¬ (tI s5 6 = 0 ∧ tI s5 8 = 5 ∧ tI s5 11 = 40) := fun q => by rw [fI 8 (by decide), fI 11 (by decide)] at q; exact h40' q.2
        have hnw : cmore (csCl c4 (cNx c4) 31) (csz 31) = nwC c4 31 := rfl
        rw [if_neg h256, b_I, if_pos rfl, decide_eq_false h256, bi_f, if_pos rfl, t_isSign (dt + 29), b_I, hfi4]
        simp only [true_and]
        rw [decide_eq_false h40', bi_f, if_pos rfl, uX7_dotted_35, e47', b_I, e49, b_V, if_pos rfl, t_isSign (dt + 29), b_I, decide_eq_false hs5, bi_f, if_pos rfl, b_I, r_cnw, hnw]
        obtain ⟨e11, hX5⟩ := J_read (p0 := p0) (dc + 20) (by omega) (by omega) hz hB5 k68 (by rw [(fB k).1]; exact hk) hk9 (by omega) (by omega)
        have hfi5 : tI s5 6 = 0 := (fI 6 (by decide)).trans hfi4
        rw [e11, b_V, dotK_go (dt + 31) hN9 hfi5, hB5.2.2.2.2.2.2.1, if_neg (by decide)]
        exact hgo _ _ _ _ _ _ hX5 (by omega)
  · rw [decide_eq_false h46, bi_f, if_pos rfl, RP_800 hR1, c_isSign (dc + 30) 40 hw, b_I]
    simp only [lx_sgn hR1.1 (x := 40) (by decide)]
    by_cases h40 : tI s 8 = 5 ∧ tI s 11 = 40
    · rw [decide_eq_true h40, bi_t, if_neg (by decide), if_neg (by decide)]
      exact J_apply (kC := fun v h => fX8_postfix_3 (cC (dc + 31)) (.ref r) v h) (kT := fun y h => fX7_postfix_5 (cT (dt + 32)) y 1 h) dc (dt + 1) hH hsubA hlv hR0 (fun y s' q => ⟨_, _, F_post5 (dt + 31) y 1 q, rfl, rfl⟩) hX h40 hgo
    · rw [decide_eq_false h40, bi_f, if_pos rfl, if_pos rfl, t_isSign (dt + 30), b_I, hfi]
      simp only [true_and]
      rw [decide_eq_false h46, bi_f, if_pos rfl, t_post0]
      right
      exact ⟨_, _, _, _, _, _, rfl, rfl, hX⟩
theorem postL (dc dt : Nat) {H D lv pz Ez Oz : Nat} (hH : 4 ≤ H) (hsubA : SP χ n t r Oa Ou O lv (H - 3) D (dc + 30) 813 (dt + 31) 40) (hsubB : SP χ n t r Oa Ou O lv (H - 3) D (dc + 30) 813 (dt + 30) 40) (hsubW : SP χ n t r Oa Ou O lv (H - 1) D (dc + 31) 829 (dt + 31) 57) (hlv : cnt s0 63 = lv) (hR0 : RP χ n t r pz f0 vo0 Op Oa Ou Ez Oz c0 s0) :
    ∀ (m p f a x : Nat) (c : cS) (s : tS), n - f ≤ m → PXo χ n t r f0 p0 vo0 Op Oa Ou E O c0 s0 H D a x c s p f → PX χ n t r f0 p0 vo0 Op Oa Ou E O c0 s0 H D (fX8_postfix_3 (cC (dc + 31)) (.ref r) (.ref a) c) (fX7_postfix_5 (cT (dt + 32)) (Int32.ofNat x) 1 s) := by
  intro m
  induction m with
  | zero =>
    intro p f a x c s hm hX
    refine post_step dc dt hH hsubA hsubB hsubW hlv hR0 hX (fun a' x' c' s' p' f' hX' hff => ?_)
    obtain ⟨_, _, _, hRz, _⟩ := hX'
    have := hRz.1.2.1
    have := hRz.1.1.2.2.2.2.2.2.1
    omega
  | succ m ih =>
    intro p f a x c s hm hX
    refine post_step dc dt hH hsubA hsubB hsubW hlv hR0 hX (fun a' x' c' s' p' f' hX' hff => ?_)
    obtain ⟨_, _, _, hRz, _⟩ := id hX'
    have := hRz.1.2.1
    have := hRz.1.1.2.2.2.2.2.2.1
    exact ih p' f' a' x' c' s' (by omega) hX'
theorem S_postfix (dc dt : Nat) {H D lv : Nat} (hH : 4 ≤ H) (hsubA : SP χ n t r Oa Ou O lv (H - 3) D (dc + 30) 813 (dt + 31) 40) (hsubB : SP χ n t r Oa Ou O lv (H - 3) D (dc + 30) 813 (dt + 30) 40) (hsubW : SP χ n t r Oa Ou O lv (H - 1) D (dc + 31) 829 (dt + 31) 57) (vo : Nat → Nat) (Op : Nat → Prop) (E p f : Nat) (c : cS) (s : tS) (hlv : cnt s 63 = lv) (hR : RP χ n t r p f vo Op Oa Ou E O c s)
    (hat : PX χ n t r f p vo Op Oa Ou E O c s H D (cC (dc + 31) 832 [eR (.ref r)] c) (cT (dt + 32) 62 [eR (.ref 0)] s)) :
    PX χ n t r f p vo Op Oa Ou E O c s H D (cC (dc + 32) 831 [eR (.ref r)] c) (cT (dt + 33) 61 [eR (.ref 0)] s) := by
  rw [kX8_postfix, r_cck, if_pos hR.2.2.2.1.1.1, uX8_postfix, kX7_postfix, uX7_postfix]
  rcases hat with hb | ⟨a, x, c', s', p', f', e1, e2, hX⟩
  · left
    exact j_px hb (Nat.le_refl _) (Nat.le_refl _) (fun y s' q => ⟨_, _, F_post5 (dt + 31) y 1 q, rfl, rfl⟩)
  · rw [e1, e2, b_R, b_I]
    exact postL dc dt hH hsubA hsubB hsubW hlv hR (n - f') p' f' a x c' s' (Nat.le_refl _) hX
end
