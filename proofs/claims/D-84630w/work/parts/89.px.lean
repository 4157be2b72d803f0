set_option maxRecDepth 100000
set_option maxHeartbeats 4000000
/-! D39: a prefix -/
section
variable {χ : Nat → Int32} {n t r : Nat} {Oa Ou : Nat → Prop} {O : Nat}
theorem PX_id {p f : Nat} {vo : Nat → Nat} {Op : Nat → Prop} {E H D : Nat} {c : cS} {s : tS} {rc : cRes} {rt : tR} (h : PX χ n t r f p vo Op Oa Ou E O c s H D rc rt) : PX χ n t r f p vo Op Oa Ou E O c s H D (bR rc fun v h => some (.inl (some (eR v)), h)) (bI rt fun v h => some (.inl (some (eI v)), h)) := by
  rcases h with hb | ⟨a, x, c', s', p', f', h1, h2, h3⟩
  · left
    exact pB_step hb (Nat.le_refl _) (Nat.le_refl _) (fun a c' q => by rw [q]; rfl) (fun q s' q1 q2 => ⟨q, s', by rw [q1, b_I], rfl, rfl⟩)
  · right
    exact ⟨a, x, c', s', p', f', by rw [h1, b_R], by rw [h2, b_I], h3⟩
theorem S_prefix (dc dt : Nat) {H D lv : Nat} (hH : 1 ≤ H) (hsub : SP χ n t r Oa Ou O lv H D (dc + 30) 829 (dt + 30) 57)
    (hsubF : ∀ s, tI s 6 ≠ 0 → ∃ q, cT (dt + 30) 57 [eR (.ref 0)] s = some (.inl (some (eI q)), s))
    (hpriv : ∀ (vo : Nat → Nat) (Op : Nat → Prop) (E p f : Nat) (c : cS) (s : tS), cnt s 63 = lv → RP χ n t r p f vo Op Oa Ou E O c s → tI s 8 = 2 → tI s 11 = 10 → PX χ n t r f p vo Op Oa Ou E O c s H D (cC (dc + 30) 827 [eR (.ref r)] c) (cT (dt + 30) 58 [eR (.ref 0)] s))
    (hund : ∀ (vo : Nat → Nat) (Op : Nat → Prop) (E p f : Nat) (c : cS) (s : tS), cnt s 63 = lv → RP χ n t r p f vo Op Oa Ou E O c s → tI s 8 = 2 → tI s 11 = 11 → PX χ n t r f p vo Op Oa Ou E O c s H D (cC (dc + 30) 830 [eR (.ref r)] c) (cT (dt + 30) 60 [eR (.ref 0)] s))
    (hpost : ∀ (vo : Nat → Nat) (Op : Nat → Prop) (E p f : Nat) (c : cS) (s : tS), cnt s 63 = lv → RP χ n t r p f vo Op Oa Ou E O c s → bPre s = true → ¬ (tI s 8 = 2 ∧ tI s 11 ∈ ([10, 11, 19, 20, 21, 22] : List Int32)) → PX χ n t r f p vo Op Oa Ou E O c s H D (cC (dc + 30) 831 [eR (.ref r)] c) (cT (dt + 30) 61 [eR (.ref 0)] s)) :
    ∀ (vo : Nat → Nat) (Op : Nat → Prop) (E p f : Nat) (c : cS) (s : tS), cnt s 63 = lv → RP χ n t r p f vo Op Oa Ou E O c s → bPre s = true → PX χ n t r f p vo Op Oa Ou E O c s H D (cC (dc + 31) 826 [eR (.ref r)] c) (cT (dt + 31) 56 [eR (.ref 0)] s) := by
  intro vo Op E p f c s hlv hR hb
  have hw : cCl c (r + 16) = 10 := hR.1.1.1.1
  have hk : ∀ k, cC (dc + 30) 1011 [eR (.ref (r + 16)), eI k] c = some (.inl (some (eI (bi (decide (tI s 8 = 2 ∧ tI s 11 = k))))), c) := fun k => by
    rw [c_isKey (dc + 29) k hw]
    simp only [lx_key hR.1]
  have h1004 : (cI c 1004 (r + 16) = 2) = (tI s 8 = 2) := by rw [hR.1.2.2.2.2.1]
  have hS := hR.2.2.2.1.1
  have hfi := hR.2.1
  rw [kX8_prefix, r_cck, if_pos hS.1, uX8_prefix, kX7_prefix, uX7_prefix]
  simp only [RP_800 hR, hk, b_I, t_isKey, hfi, true_and, r_cgI, hw, show 1004 / 100 = 10 from rfl, show 1006 / 100 = 10 from rfl, if_true, h1004]
  by_cases h8 : tI s 8 = 2
  · have hm : tI s 11 ∈ ([10, 11, 12, 13, 14, 15, 16, 17, 18, 19, 20, 21, 22] : List Int32) := by
      unfold bPre at hb
      rw [decide_eq_true_iff, h8] at hb
      rcases hb with q | q | q | q
      · exact absurd q (by decide)
      · exact absurd q (by decide)
      · exact absurd q.1 (by decide)
      · exact q.2
    have h1006 : cI c 1006 (r + 16) = tI s 11 := by
      have q : cI c 1004 (r + 16) = 2 ∧ cI c 1006 (r + 16) = tI s 11 := by rw [lx_key hR.1 (tI s 11)]; exact ⟨h8, rfl⟩
      exact q.2
    rw [h1006]
    have hw19 := fun (w K : Nat) q (e : tI s 11 = Int32.ofNat w) => S_word dc dt (χ := χ) (n := n) (t := t) (r := r) (Oa := Oa) (Ou := Ou) (O := O) w K q hH hsub hsubF vo Op E p f c s hlv hR h8 e
    have hpo : tI s 11 ∉ ([10, 11, 19, 20, 21, 22] : List Int32) → PX χ n t r f p vo Op Oa Ou E O c s H D (fX8_prefix_29 (cC (dc + 30)) (.ref r) 0 c) (bI (cT (dt + 30) 61 [eR (.ref 0)] s) fun v14 h13 => some (.inl (some (eI v14)), h13)) := fun q => by
      rw [uX8_prefix_29, if_pos rfl]
      exact PX_id (hpost vo Op E p f c s hlv hR hb (fun z => q z.2))
    simp only [h8, true_and, if_true]
    simp only [List.mem_cons, List.not_mem_nil, or_false] at hm
    rcases hm with e | e | e | e | e | e | e | e | e | e | e | e | e
    · rw [e]
      exact PX_id (hpriv vo Op E p f c s hlv hR h8 e)
    · rw [e]
      exact PX_id (hund vo Op E p f c s hlv hR h8 e)
    all_goals first
      | (have q := hpo (by rw [e]; decide); rw [e]; exact q)
      | (have q := hw19 19 21 (by decide) e; rw [e]; exact q)
      | (have q := hw19 20 23 (by decide) e; rw [e]; exact q)
      | (have q := hw19 21 24 (by decide) e; rw [e]; exact q)
      | (have q := hw19 22 22 (by decide) e; rw [e]; exact q)
  · simp only [h8, false_and, decide_false, bi_f, if_true, if_false]
    rw [uX8_prefix_29, if_pos rfl]
    exact PX_id (hpost vo Op E p f c s hlv hR hb (fun z => h8 z.1))
end
