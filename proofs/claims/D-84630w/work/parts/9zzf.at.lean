set_option maxRecDepth 100000
set_option maxHeartbeats 4000000
/-! D106: an atom, whole -/
section
variable {χ : Nat → Int32} {n t r : Nat} {Op Oa Ou : Nat → Prop} {E O : Nat}
theorem PX_base {p0 f0 pE fE H D : Nat} {vo0 voE : Nat → Nat} {c0 cE : cS} {s0 sE : tS} {rc : cRes} {rt : tR} (hz0 : (cLs c0 (r + 8)).length = cnt s0 35) (hzE : (cLs cE (r + 8)).length = cnt sE 35) (hSE : ST n r f0 c0 s0 fE cE sE) (hvE : ∀ v, v < cnt s0 50 → voE v = vo0 v) (hKE : KS s0 sE) (hp : p0 ≤ pE)
    (hX : PX χ n t r fE pE voE Op Oa Ou E O cE sE H D rc rt) : PX χ n t r f0 p0 vo0 Op Oa Ou E O c0 s0 H D rc rt := by
  rcases hX with hb | ⟨a, x, c', s', p', f', e1, e2, hX⟩
  · exact Or.inl (pB_step hb hSE.2.2.2.1 hSE.2.2.2.2.1 (fun _ _ q => q) (fun q s' e _ => ⟨q, s', e, rfl, rfl⟩))
  · exact Or.inr ⟨a, x, c', s', p', f', e1, e2, PXo_base hz0 hzE hSE hvE hKE hp hX⟩
theorem PX_idT {f p H D : Nat} {vo : Nat → Nat} {c : cS} {s : tS} {rc : cRes} {rt : tR} (hX : PX χ n t r f p vo Op Oa Ou E O c s H D rc rt) : PX χ n t r f p vo Op Oa Ou E O c s H D rc (bI rt fun v h => some (.inl (some (eI v)), h)) := by
  rcases hX with ⟨a, c', y, s', k, pl, e1, e2, q⟩ | ⟨a, x, c', s', p', f', e1, e2, q⟩
  · exact Or.inl ⟨a, c', y, s', k, pl, e1, by rw [e2]; rfl, q⟩
  · exact Or.inr ⟨a, x, c', s', p', f', e1, by rw [e2]; rfl, q⟩
theorem PX_wk {f p H H' D D' : Nat} {vo : Nat → Nat} {c : cS} {s : tS} {rc : cRes} {rt : tR} (hH : H ≤ H') (hD : D ≤ D') (hX : PX χ n t r f p vo Op Oa Ou E O c s H D rc rt) : PX χ n t r f p vo Op Oa Ou E O c s H' D' rc rt := by
  rcases hX with hb | ⟨a, x, c', s', p', f', e1, e2, vo', g, W, q1, q2, q3, q4, q5, q6, q7⟩
  · exact Or.inl hb
  · exact Or.inr ⟨a, x, c', s', p', f', e1, e2, vo', g, W, q1, q2, q3, q4, q5, TR_wkH _ _ _ _ _ _ _ _ _ _ hH hD (Nat.le_refl _) q6, q7⟩
theorem SP_wk {lv H H' D D' dc mc dt mt : Nat} (hH : H ≤ H') (hD : D ≤ D') (h : SP χ n t r Oa Ou O lv H D dc mc dt mt) : SP χ n t r Oa Ou O lv H' D' dc mc dt mt :=
  fun vo Op E p f c s hlv hR => PX_wk hH hD (h vo Op E p f c s hlv hR)
theorem S_atom (dc dt : Nat) {H D lv H2 D2 : Nat} (hn13 : n ≤ 1280) (hH : 2 ≤ H) (hHf : 1 ≤ H2 → 14 ≤ H) (hH2 : H2 ≤ 149) (hD2 : D2 ≤ 24) (hsubF : ∀ Ou', SP χ n t r Oa Ou' O lv H2 D2 (dc + 79) 813 (dt + 31) 40) (hsubX : ∀ Oa', SP χ n t r Oa' Ou O lv H D (dc + 80) 813 (dt + 32) 40) (hsubP : SP χ n t r Oa Ou O lv H D (dc + 81) 813 (dt + 33) 40)
    (vo : Nat → Nat) (Op : Nat → Prop) (E p f : Nat) (c : cS) (s : tS) (hlv : cnt s 63 = lv) (hR : RP χ n t r p f vo Op Oa Ou E O c s) (hb : bPre s = true) (hnot : ¬ (tI s 8 = 2 ∧ tI s 11 ∈ ([10, 11, 19, 20, 21, 22] : List Int32))) :
    PX χ n t r f p vo Op Oa Ou E O c s H D (cC (dc + 82) 832 [eR (.ref r)] c) (cT (dt + 34) 62 [eR (.ref 0)] s) := by
  have hS := hR.2.2.2.1.1
  have hw := hR.1.1.1.1
  have hl := hR.1.1.2.2.2.2.1.1
  have hfi := hR.2.1
  have hz := RP_len hR
  have h1004 : cI c 1004 (r + 16) = tI s 8 := hR.1.2.2.2.2.1
  have hH1 : 1 ≤ H := by omega
  have kf : ∀ k : Int32, ¬ (tI s 8 = 2 ∧ tI s 11 = k) → cT (dt + 33) 21 [eR (.ref 0), eI k] s = some (.inl (some (eI 0)), s) := fun k hk => by
    rw [t_isKey (dt + 31), decide_eq_false (fun q => hk q.2), bi_f]
  have kt : ∀ k : Int32, tI s 8 = 2 → tI s 11 = k → cT (dt + 33) 21 [eR (.ref 0), eI k] s = some (.inl (some (eI 1)), s) := fun k h8 hk => by
    rw [t_isKey (dt + 31), decide_eq_true ⟨hfi, h8, hk⟩, bi_t]
  have gf : ∀ k : Int32, ¬ (tI s 8 = 5 ∧ tI s 11 = k) → cT (dt + 33) 27 [eR (.ref 0), eI k] s = some (.inl (some (eI 0)), s) := fun k hk => by
    rw [t_isSign (dt + 31), decide_eq_false (fun q => hk q.2), bi_f]
  have gt : ∀ k : Int32, tI s 8 = 5 → tI s 11 = k → cT (dt + 33) 27 [eR (.ref 0), eI k] s = some (.inl (some (eI 1)), s) := fun k h8 hk => by
    rw [t_isSign (dt + 31), decide_eq_true ⟨hfi, h8, hk⟩, bi_t]
  have hb' := hb
  unfold bPre at hb'
  have hb2 := of_decide_eq_true hb'
  rw [kX8_atom, r_cck, if_pos hS.1, uX8_atom, RP_800 hR, r_cgI, if_pos hw, h1004, kX7_atom, uX7_atom]
  by_cases h3 : tI s 8 = 3
  · rw [if_pos h3, if_pos h3]
    exact S_number (dc + 50) (dt + 2) hH1 vo Op E p f c s hlv hR h3
  rw [if_neg h3, if_neg h3, RP_800 hR, r_cgI, if_pos hw, h1004]
  by_cases h1 : tI s 8 = 1
  · rw [if_pos h1, if_pos h1]
    exact PX_id (S_var dc (dt + 1) hH1 vo Op E p f c s hlv hR h1)
  rw [if_neg h1, if_neg h1, RP_800 hR, c_isSign (dc + 80) 123 hw, b_I]
  have sg123 := lx_sgn hR.1 (x := 123) (by decide)
  have sg40 := lx_sgn hR.1 (x := 40) (by decide)
  simp only [sg123]
  by_cases h5 : tI s 8 = 5
  · have nk : ∀ k : Int32, ¬ (tI s 8 = 2 ∧ tI s 11 = k) := fun k q => by rw [h5] at q; exact absurd q.1 (by decide)
    rw [kf 14 (nk _), b_I, if_pos rfl, kf 15 (nk _), b_I, if_pos rfl, kf 16 (nk _), b_I, if_pos rfl, kf 13 (nk _), b_I, if_pos rfl, kf 12 (nk _), b_I, if_pos rfl, kf 17 (nk _), b_I, if_pos rfl, kf 18 (nk _), b_I, if_pos rfl]
    by_cases h123 : tI s 11 = 123
    · rw [decide_eq_true ⟨h5, h123⟩, bi_t, if_neg n10, gt 123 h5 h123, b_I, if_neg n10, RP_800 hR]
      exact S_row (dc + 50) (dt + 2) hH1 (hsubX Oa) vo Op E p f c s hlv hR ⟨h5, h123⟩
    · have h40 : tI s 11 = 40 := by
        rcases hb2 with q | q | ⟨_, q⟩ | q
        · exact absurd q h1
        · exact absurd q h3
        · rcases q with q | q
          · exact absurd q h123
          · exact q
        · rw [h5] at q; exact absurd q.1 (by decide)
      rw [decide_eq_false (fun q => h123 q.2), bi_f, if_pos rfl, RP_800 hR, c_passE (dc + 67) 40 hw]
      simp only [sg40]
      rw [if_pos ⟨h5, h40⟩, gf 123 (fun q => h123 q.2), b_I, if_pos rfl, gt 40 h5 h40, b_I, if_neg n10, a_IV]
      refine J_nx (dc + 60) (dt + 13) hR (Nat.le_refl _) (Nat.le_refl _) (fun s' q2 => ?_) (fun c' s' p' f' hW hST hpf hcr => ?_)
      · rw [F_e (dt + 29) q2, b_I, F_sign (dt + 29) _ q2, b_V]
        exact ⟨_, _, rfl, rfl, rfl⟩
      rw [b_I, if_neg n10]
      have hth := hW.2.2.2.1
      refine PX_base (voE := vo) hz (RP_len hW.1) hST (fun _ _ => rfl) (KS_th hth (by decide)) (Nat.le_trans hpf hW.1.1.2.1) ?_
      exact S_par (dc + 51) (dt + 3) 41 (by decide) hsubP vo Op E p' f' c' s' ((th_cnt hth (by decide)).trans hlv) hW.1 (fun p' f' vo' E' c' s' h => lx_sgn h.1 (by decide))
  · have hk2 : tI s 8 = 2 ∧ tI s 11 ∈ ([10, 11, 12, 13, 14, 15, 16, 17, 18, 19, 20, 21, 22] : List Int32) := by
      rcases hb2 with q | q | q | q
      · exact absurd q h1
      · exact absurd q h3
      · exact absurd q.1 h5
      · exact q
    obtain ⟨h2, hm⟩ := hk2
    have h8 : tI s 8 ≠ 0 := by rw [h2]; decide
    have em : cC (dc + 81) 803 [eR (.ref r), eI 1, eI 1] c = some (.inl none, c) := (c_must (dc + 67) true 1 hS.1 hS.2.1 hw hl).trans (if_pos rfl)
    have h1006 : cI c 1006 (r + 16) = tI s 11 := by
      have q : cI c 1004 (r + 16) = 2 ∧ cI c 1006 (r + 16) = tI s 11 := by rw [lx_key hR.1 (tI s 11)]; exact ⟨h2, rfl⟩
      exact q.2
    rw [decide_eq_false (fun q => h5 q.1), bi_f, if_pos rfl, RP_800 hR, c_passE (dc + 67) 40 hw]
    simp only [sg40]
    rw [if_neg (fun q => h5 q.1), b_I, if_pos rfl, RP_800 hR, r_cgI, if_pos hw, h1004, if_pos h2, uX8_atom_71, em, b_V, RP_800 hR, r_cgI, if_pos hw, h1006]
    have kv : ∀ k : Int32, tI s 11 ≠ k → ¬ (tI s 8 = 2 ∧ tI s 11 = k) := fun k hk q => hk q.2
    simp only [List.mem_cons, List.not_mem_nil, or_false] at hm
    have hno : ∀ k : Int32, k ∈ ([10, 11, 19, 20, 21, 22] : List Int32) → tI s 11 ≠ k := fun k hk q => hnot ⟨h2, by rw [q]; exact hk⟩
    rcases hm with e | e | e | e | e | e | e | e | e | e | e | e | e
    · exact absurd e (hno 10 (by decide))
    · exact absurd e (hno 11 (by decide))
    · rw [kf 14 (kv _ (by rw [e]; decide)), b_I, if_pos rfl, kf 15 (kv _ (by rw [e]; decide)), b_I, if_pos rfl, kf 16 (kv _ (by rw [e]; decide)), b_I, if_pos rfl, kf 13 (kv _ (by rw [e]; decide)), b_I, if_pos rfl, kt 12 h2 e, b_I, if_neg n10, if_pos e]
      exact PX_id (S_fun (dc + 49) (dt + 1) hn13 hHf hH2 hD2 hsubF vo Op E p f c s hlv hR h8)
    · rw [kf 14 (kv _ (by rw [e]; decide)), b_I, if_pos rfl, kf 15 (kv _ (by rw [e]; decide)), b_I, if_pos rfl, kf 16 (kv _ (by rw [e]; decide)), b_I, if_pos rfl, kt 13 h2 e, b_I, if_neg n10, if_neg (by rw [e]; decide), if_pos (show tI s 11 = 12 + 1 from e.trans (by decide))]
      exact PX_id (S_new (dc + 50) (dt + 2) hH1 vo Op E p f c s hlv hR h8)
    · rw [kt 14 h2 e, b_I, if_neg n10, if_neg (by rw [e]; decide), if_neg (by rw [e]; decide), if_pos (show tI s 11 = 12 + 1 + 1 from e.trans (by decide))]
      exact PX_idT (S_nil (dc + 51) (dt + 2) hH1 vo Op E p f c s hlv hR h8)
    · rw [kf 14 (kv _ (by rw [e]; decide)), b_I, if_pos rfl, kt 15 h2 e, b_I, if_neg n10, if_neg (by rw [e]; decide), if_neg (by rw [e]; decide), if_neg (by rw [e]; decide), if_pos (show tI s 11 = 12 + 1 + 1 + 1 from e.trans (by decide))]
      exact PX_idT (S_self (dc + 1) (dt + 1) hH1 vo Op E p f c s hlv hR h8)
    · rw [kf 14 (kv _ (by rw [e]; decide)), b_I, if_pos rfl, kf 15 (kv _ (by rw [e]; decide)), b_I, if_pos rfl, kt 16 h2 e, b_I, if_neg n10, if_neg (by rw [e]; decide), if_neg (by rw [e]; decide), if_neg (by rw [e]; decide), if_neg (by rw [e]; decide), if_pos (show tI s 11 = 12 + 1 + 1 + 1 + 1 from e.trans (by decide))]
      exact PX_idT (S_ctx (dc + 51) (dt + 2) hH1 vo Op E p f c s hlv hR h8)
    · rw [kf 14 (kv _ (by rw [e]; decide)), b_I, if_pos rfl, kf 15 (kv _ (by rw [e]; decide)), b_I, if_pos rfl, kf 16 (kv _ (by rw [e]; decide)), b_I, if_pos rfl, kf 13 (kv _ (by rw [e]; decide)), b_I, if_pos rfl, kf 12 (kv _ (by rw [e]; decide)), b_I, if_pos rfl, kt 17 h2 e, b_I, if_neg n10, if_neg (by rw [e]; decide), if_neg (by rw [e]; decide), if_neg (by rw [e]; decide), if_neg (by rw [e]; decide), if_neg (by rw [e]; decide), if_pos (show tI s 11 = 12 + 1 + 1 + 1 + 1 + 1 from e.trans (by decide))]
      exact PX_id (S_ask (dc + 50) (dt + 2) hH (fun Oa' => hsubX Oa') vo Op E p f c s hlv hR h2 (Or.inl e))
    · rw [kf 14 (kv _ (by rw [e]; decide)), b_I, if_pos rfl, kf 15 (kv _ (by rw [e]; decide)), b_I, if_pos rfl, kf 16 (kv _ (by rw [e]; decide)), b_I, if_pos rfl, kf 13 (kv _ (by rw [e]; decide)), b_I, if_pos rfl, kf 12 (kv _ (by rw [e]; decide)), b_I, if_pos rfl, kf 17 (kv _ (by rw [e]; decide)), b_I, if_pos rfl, kt 18 h2 e, b_I, if_neg n10, if_neg (by rw [e]; decide), if_neg (by rw [e]; decide), if_neg (by rw [e]; decide), if_neg (by rw [e]; decide), if_neg (by rw [e]; decide), if_neg (by rw [e]; decide), if_pos (show tI s 11 = 12 + 1 + 1 + 1 + 1 + 1 + 1 from e.trans (by decide))]
      exact PX_id (S_ask (dc + 50) (dt + 2) hH (fun Oa' => hsubX Oa') vo Op E p f c s hlv hR h2 (Or.inr e))
    all_goals exact absurd e (hno _ (by decide))
end
