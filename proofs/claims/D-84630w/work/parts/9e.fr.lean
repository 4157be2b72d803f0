set_option maxRecDepth 100000
set_option maxHeartbeats 4000000
/-! D54: what was there stays; new lists; a new unit's object -/
/-- all that was there is as it was -/
def FR (c c' : cS) : Prop := cNx c ≤ cNx c' ∧ cSl c ≤ cSl c' ∧ ∀ b, cCl c b ≠ 0 → cCl c' b = cCl c b ∧ cLen c' b = cLen c b ∧ cLs c' b = cLs c b ∧ (∀ x, cI c' x b = cI c x b) ∧ (∀ x, cL c' x b = cL c x b) ∧ (∀ x, cR c' x b = cR c x b) ∧ cAI c' b = cAI c b ∧ cAL c' b = cAL c b
theorem FR_refl (c : cS) : FR c c := ⟨Nat.le_refl _, Nat.le_refl _, fun _ _ => ⟨rfl, rfl, rfl, fun _ => rfl, fun _ => rfl, fun _ => rfl, rfl, rfl⟩⟩
theorem FR_trans {a b c : cS} (h : FR a b) (k : FR b c) : FR a c := by
  refine ⟨Nat.le_trans h.1 k.1, Nat.le_trans h.2.1 k.2.1, fun x hx => ?_⟩
  obtain ⟨e1, e2, e3, e4, e5, e6, e7, e8⟩ := h.2.2 x hx
  obtain ⟨g1, g2, g3, g4, g5, g6, g7, g8⟩ := k.2.2 x (by rw [e1]; exact hx)
  exact ⟨g1.trans e1, g2.trans e2, g3.trans e3, fun y => (g4 y).trans (e4 y), fun y => (g5 y).trans (e5 y), fun y => (g6 y).trans (e6 y), g7.trans e7, g8.trans e8⟩
section
variable {c c' : cS} {a : Nat}
theorem FR_ne (ha : cCl c a = 0) {b : Nat} (hb : cCl c b ≠ 0) : b ≠ a := by rintro rfl; exact hb ha
theorem FR_I {x : Nat} {v : Int32} (ha : cCl c a = 0) (h : FR c c') : FR c (csI c' x a v) := by
  refine ⟨h.1, h.2.1, fun b hb => ?_⟩
  obtain ⟨e1, e2, e3, e4, e5, e6, e7, e8⟩ := h.2.2 b hb
  exact ⟨e1, e2, e3, fun y => by rw [g_I_I, if_neg (fun q => FR_ne ha hb q.2)]; exact e4 y, e5, e6, e7, e8⟩
theorem FR_L {x : Nat} {v : Int64} (ha : cCl c a = 0) (h : FR c c') : FR c (csL c' x a v) := by
  refine ⟨h.1, h.2.1, fun b hb => ?_⟩
  obtain ⟨e1, e2, e3, e4, e5, e6, e7, e8⟩ := h.2.2 b hb
  exact ⟨e1, e2, e3, e4, fun y => by rw [g_L_L, if_neg (fun q => FR_ne ha hb q.2)]; exact e5 y, e6, e7, e8⟩
theorem FR_R {x : Nat} {v : Value} (ha : cCl c a = 0) (h : FR c c') : FR c (csR c' x a v) := by
  refine ⟨h.1, h.2.1, fun b hb => ?_⟩
  obtain ⟨e1, e2, e3, e4, e5, e6, e7, e8⟩ := h.2.2 b hb
  exact ⟨e1, e2, e3, e4, e5, fun y => by rw [g_R_R, if_neg (fun q => FR_ne ha hb q.2)]; exact e6 y, e7, e8⟩
theorem FR_Cl {k : Nat} (ha : cCl c a = 0) (h : FR c c') : FR c (csCl c' a k) := by
  refine ⟨h.1, h.2.1, fun b hb => ?_⟩
  obtain ⟨e1, e2, e3, e4, e5, e6, e7, e8⟩ := h.2.2 b hb
  exact ⟨by rw [g_Cl_Cl, if_neg (FR_ne ha hb)]; exact e1, e2, e3, e4, e5, e6, e7, e8⟩
theorem FR_Ls {l : List Value} (ha : cCl c a = 0) (h : FR c c') : FR c (csLs c' a l) := by
  refine ⟨h.1, h.2.1, fun b hb => ?_⟩
  obtain ⟨e1, e2, e3, e4, e5, e6, e7, e8⟩ := h.2.2 b hb
  exact ⟨e1, e2, by rw [g_Ls_Ls, if_neg (FR_ne ha hb)]; exact e3, e4, e5, e6, e7, e8⟩
theorem FR_Cap {k : Nat} (h : FR c c') : FR c (csCap c' a k) := h
theorem FR_more {k : Nat} (h : FR c c') : FR c (cmore c' k) := ⟨Nat.le_succ_of_le h.1, by show cSl c ≤ cSl c' + k; have := h.2.1; omega, h.2.2⟩
theorem FR_nw {k : Nat} (hn : cCl c (cNx c') = 0) (h : FR c c') : FR c (nwC c' k) := FR_more (FR_Cl hn h)
theorem FR_LA {l : List Value} (ha : cCl c a = 0) (h : FR c c') {c2 : cS} (k : LA c' a l c2) : FR c c2 := by
  obtain ⟨⟨h1, _, h3, _⟩, ⟨e1, e2, e3, e4, e5, e6, e7⟩, _, h4⟩ := k
  refine ⟨Nat.le_trans h.1 h1, Nat.le_trans h.2.1 h3, fun b hb => ?_⟩
  obtain ⟨g1, g2, g3, g4, g5, g6, g7, g8⟩ := h.2.2 b hb
  rw [e1, e2, e3, e4, e5, e6, e7, h4 b (FR_ne ha hb)]
  exact ⟨g1, g2, g3, g4, g5, g6, g7, g8⟩
/-- no part that has a list was made -/
def NF (c c' : cS) : Prop := ∀ a, cCl c a = 0 → cCl c' a ≠ 27 ∧ cCl c' a ≠ 30 ∧ cCl c' a ≠ 32
theorem NF_refl (c : cS) : NF c c := fun a ha => by rw [ha]; decide
theorem NF_Cl {k : Nat} (hk : k ≠ 27 ∧ k ≠ 30 ∧ k ≠ 32) (h : NF c c') : NF c (csCl c' a k) := fun b hb => by
  rw [g_Cl_Cl]
  by_cases q : b = a
  · rw [if_pos q]; exact hk
  · rw [if_neg q]; exact h b hb
theorem NF_nw {k : Nat} (hk : k ≠ 27 ∧ k ≠ 30 ∧ k ≠ 32) (h : NF c c') : NF c (nwC c' k) := NF_Cl hk h
theorem FR_raw (h : FR c c') (hf : NF c c') : ∀ b, raw c b → raw c' b := raw_eq (fun b hb => (h.2.2 b hb).1) (fun x b _ hb => (h.2.2 b hb).2.2.2.2.2.1 x) (fun b hb => (h.2.2 b (by rcases hb with q | q <;> rw [q] <;> decide)).2.2.1) (fun b x L hb hx _ => by have := hf b hb; omega)
theorem FR_ch (h : FR c c') (hf : NF c c') : CH [] [] [] [] c c' := ⟨h.1, fun b hb => ⟨(h.2.2 b hb).1, (h.2.2 b hb).2.1⟩, fun x b _ hb => (h.2.2 b hb.1).2.2.2.1 x, fun x b _ hb => (h.2.2 b hb.1).2.2.2.2.1 x, fun x b _ hb => (h.2.2 b hb.1).2.2.2.2.2.1 x, fun b _ hb => (h.2.2 b hb).2.2.1, fun b j hb => by rw [(h.2.2 b (by rw [hb]; decide)).2.2.2.2.2.2.2], fun q o y L hk z => by
  have ho : cCl c o ≠ 0 := fun w => by have := hf o w; unfold bdx at hk; omega
  obtain ⟨e1, _, _, _, _, e6, _, _⟩ := h.2.2 o ho
  rw [e1] at hk
  rw [e6] at z
  have hL := q o y L hk z
  rw [(h.2.2 L hL).1]
  exact hL⟩
theorem FR_kc {r : Nat} (h : FR c c') (hf : NF c c') (hS : RSt r c) : KC r c c' := KC_of (FR_ch h hf) hS h.2.1 (by decide)
theorem FR_A (h : FR c c') : ∀ b, cCl c b ≠ 0 → cCl c b ≠ 6009 → cAI c' b = cAI c b ∧ cAL c' b = cAL c b := fun b hb _ => ⟨(h.2.2 b hb).2.2.2.2.2.2.1, (h.2.2 b hb).2.2.2.2.2.2.2⟩
theorem RP_FR {χ : Nat → Int32} {n t r p f : Nat} {vo : Nat → Nat} {Op Oa Ou : Nat → Prop} {E O : Nat} {s : tS} (h : FR c c') (hf : NF c c') (hn : CLN c') (hP : RP χ n t r p f vo Op Oa Ou E O c s) : RP χ n t r p f vo Op Oa Ou E O c' s := RP_fr (FR_ch h hf) (TH_refl [] [] [] [] s) (FR_A h) hn h.2.1 (by decide) (by decide) (by simp) hP
/-- a list is begun -/
def nlC (c : cS) (k m : Nat) : cS := cmore (csCap (csCl (nwC c (k + 5000)) (cNx c) k) (cNx c) m) m
theorem c_ini (d : Nat) {k m : Nat} (hc : cCl c a = k + 5000) (hk : cak k = 9) (h1 : 0 < m) (h2 : m < 1000) : cC (d + 9) 9101 [eR (.ref a), eI (Int32.ofNat m)] c = some (.inl none, cmore (csCap (csCl c a k) a m) m) := by
  rw [pq_ini]; unfold clini
  have e1 : cCl c a - 5000 = k := by rw [hc]; omega
  have e2 : (0 : Int32) < Int32.ofNat m := by rw [show (0 : Int32) = Int32.ofNat 0 from rfl, z_lt (by decide) (by omega)]; exact h1
  have e3 : Int32.ofNat m < (1000 : Int32) := by rw [show (1000 : Int32) = Int32.ofNat 1000 from rfl, z_lt (by omega) (by decide)]; exact h2
  simp only [e1, hk, e2, e3, and_self, if_true, z_nat (show m < 2147483648 by omega)]
theorem c_nl (d : Nat) {k m : Nat} (hk : cak k = 9) (h1 : 0 < m) (h2 : m < 1000) : cC (d + 9) 9101 [eR (.ref (cNx c)), eI (Int32.ofNat m)] (nwC c (k + 5000)) = some (.inl none, nlC c k m) := c_ini d (nw_cl c (k + 5000)) hk h1 h2
theorem FR_nl {k m : Nat} (hn : cCl c (cNx c') = 0) (h : FR c c') : FR c (nlC c' k m) := FR_more (FR_Cap (FR_Cl hn (FR_nw hn h)))
theorem nl_cl (c : cS) (k m : Nat) : cCl (nlC c k m) (cNx c) = k := by simp [nlC, nwC, gC]
theorem NF_nl {k m : Nat} (hk : k ≠ 27 ∧ k ≠ 30 ∧ k ≠ 32) (h : NF c c') : NF c (nlC c' k m) := NF_Cl hk (NF_nw ⟨by omega, by omega, by omega⟩ h)
/-- a unit's object -/
def uiC (c : cS) (n s p : Int32) (m o : Value) : cS :=
  csR (csR (csI (csI (csI (csR (nlC (csR (nlC (csI (csR (nlC (nwC c 16) 6605 4) 1605 (cNx c) (.ref (cNx c + 1))) 1610 (cNx c) (-1)) 6614 4) 1614 (cNx c) (.ref (cNx c + 3))) 6617 2) 1617 (cNx c) (.ref (cNx c + 5))) 1600 (cNx c) n) 1601 (cNx c) s) 1602 (cNx c) p) 1603 (cNx c) m) 1604 (cNx c) o
theorem c_nl2 (d : Nat) {t k m : Nat} {K : Value → cS → cRes} (ht : t = k + 5000) (hk : cak k = 9) (h1 : 0 < m) (h2 : m < 1000) : (cnw c t fun v h => bV (cC (d + 9) 9101 [eR v, eI (Int32.ofNat m)] h) (K v)) = K (.ref (cNx c)) (nlC c k m) := by
  subst ht
  rw [r_cnw]
  show bV (cC (d + 9) 9101 [eR (.ref (cNx c)), eI (Int32.ofNat m)] (nwC c (k + 5000))) _ = _
  rw [c_nl d hk h1 h2, b_V]
theorem nl_old {k m : Nat} (h : a ≠ cNx c) : cCl (nlC c k m) a = cCl c a := by
  show cCl (csCl (csCl c (cNx c) (k + 5000)) (cNx c) k) a = _
  rw [g_Cl_Cl, if_neg h, g_Cl_Cl, if_neg h]
theorem kpR (x b : Nat) (v w : Value) (K : cS → cRes) (h : cCl c b = x / 100) (hv : misR v = true) : cpR c x (.ref b) v K = K (csR c x b v) := by rw [r_cpR, if_pos ⟨h, hv⟩]
theorem kpI (x b : Nat) (v : Int32) (K : cS → cRes) (h : cCl c b = x / 100) : cpI c x (.ref b) v K = K (csI c x b v) := by rw [r_cpI, if_pos h]
theorem ui_FR (hn : CLN c) (n s p : Int32) (m o : Value) : FR c (uiC c n s p m o) := by
  have z : ∀ i, cCl c (cNx c + i) = 0 := fun i => (hn _ (by omega)).1
  have z0 := z 0
  exact FR_R z0 (FR_R z0 (FR_I z0 (FR_I z0 (FR_I z0 (FR_R z0 (FR_nl (z 5) (FR_R z0 (FR_nl (z 3) (FR_I z0 (FR_R z0 (FR_nl (z 1) (FR_nw z0 (FR_refl c)))))))))))))
theorem NF_R {x a : Nat} {v : Value} (h : NF c c') : NF c (csR c' x a v) := h
theorem NF_I {x a : Nat} {v : Int32} (h : NF c c') : NF c (csI c' x a v) := h
theorem ui_NF (c : cS) (n s p : Int32) (m o : Value) : NF c (uiC c n s p m o) :=
  NF_R (NF_R (NF_I (NF_I (NF_I (NF_R (NF_nl (k := 6617) (m := 2) (by decide) (NF_R (NF_nl (k := 6614) (m := 4) (by decide) (NF_I (NF_R (NF_nl (k := 6605) (m := 4) (by decide) (NF_nw (k := 16) (by decide) (NF_refl c)))))))))))))
theorem ui_facts (c : cS) (n s p : Int32) (m o : Value) : cNx (uiC c n s p m o) = cNx c + 7 ∧ cSl (uiC c n s p m o) = cSl c + 40 := by
  unfold uiC
  exact ⟨rfl, by
    show cSl c + csz 16 + csz 11605 + 4 + csz 11614 + 4 + csz 11617 + 2 = _
    rw [show csz 16 = 21 from rfl, show csz 11605 = 3 from rfl, show csz 11614 = 3 from rfl, show csz 11617 = 3 from rfl]⟩
end
