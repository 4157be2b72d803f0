set_option maxRecDepth 100000
set_option maxHeartbeats 2000000
/-! D28: objects are made and set up -/
section
variable {χ : Nat → Int32} {n t r p f : Nat} {vo : Nat → Nat} {Op Oa Ou : Nat → Prop} {E O : Nat} {c c' : cS} {s s' : tS}
theorem KC_I {x a : Nat} {v : Int32} (ha : cCl c a = 0) (h : KC r c c') : KC r c (csI c' x a v) := by
  obtain ⟨h1, h2, h3, h4, h5, h6, h7, h8, h9⟩ := h
  refine ⟨h1, h2, h3, fun y b hy hb => ?_, h5, h6, h7, ⟨h8.1, h8.2.1, fun b hb q => ?_⟩, h9⟩
  · rw [g_I_I, if_neg (by rintro ⟨_, rfl⟩; exact hb.1 ha)]
    exact h4 y b hy hb
  · rw [g_I_I, if_neg (by rintro ⟨_, rfl⟩; rw [ha] at hb; exact absurd hb (by decide))]
    exact h8.2.2 b hb q
theorem KC_L {x a : Nat} {v : Int64} (ha : cCl c a = 0) (h : KC r c c') : KC r c (csL c' x a v) := by
  obtain ⟨h1, h2, h3, h4, h5, h6, h7, h8, h9⟩ := h
  refine ⟨h1, h2, h3, h4, fun y b hy hb => ?_, h6, h7, h8, h9⟩
  rw [g_L_L, if_neg (by rintro ⟨_, rfl⟩; exact hb.1 ha)]
  exact h5 y b hy hb
theorem KC_R {x a : Nat} {v : Value} (ha : cCl c a = 0) (h : KC r c c') : KC r c (csR c' x a v) := by
  obtain ⟨h1, h2, h3, h4, h5, h6, h7, h8, h9⟩ := h
  refine ⟨h1, h2, h3, h4, h5, fun y b hy hb h29 => ?_, h7, h8, h9⟩
  rw [g_R_R, if_neg (by rintro ⟨_, rfl⟩; exact hb.1 ha)]
  exact h6 y b hy hb h29
theorem raw_R {x a : Nat} {v : Value} (ha : cCl c a = 0) (h : ∀ b, raw c b → raw c' b) (hx : x ∉ [2700, 3000, 3003, 3201] := by decide) : ∀ b, raw c b → raw (csR c' x a v) b := by
  intro b q
  have hb : b.1 ≠ a := by
    intro e
    rw [← e] at ha
    rcases q with q | q
    · rcases q with q | q | q | q <;> rw [q.1] at ha <;> cases ha
    · rcases q.1 with w | w <;> rw [w] at ha <;> cases ha
  have k : ∀ y o, y ∈ [2700, 3000, 3003, 3201] → cR (csR c' x a v) y o = cR c' y o := fun y o hy => by
    rw [g_R_R, if_neg]
    rintro ⟨rfl, _⟩
    exact hx hy
  rcases h b q with w | ⟨w1, w2, w3⟩
  · left
    unfold raw0 at w ⊢
    simp only [gC, hb, and_false, if_false]
    exact w
  · right
    refine ⟨w1, w2, fun o => ?_⟩
    rw [k 2700 o (by simp), k 3000 o (by simp), k 3003 o (by simp), k 3201 o (by simp)]
    exact w3 o
theorem raw_W {x a : Nat} {v : Value} (h : ∀ b, raw c b → raw c' b) (hx : x ∉ [3301, 3100, 3000, 2000, 2700, 3003, 3201] := by decide) : ∀ b, raw c b → raw (csR c' x a v) b := by
  intro b q
  have k : ∀ y o, y ∈ [3301, 3100, 3000, 2000, 2700, 3003, 3201] → cR (csR c' x a v) y o = cR c' y o := fun y o hy => by
    rw [g_R_R, if_neg]
    rintro ⟨rfl, _⟩
    exact hx hy
  rcases h b q with w | ⟨w1, w2, w3⟩
  · left
    unfold raw0 at w ⊢
    rw [k 3301 _ (by simp), k 3100 _ (by simp), k 3000 _ (by simp), k 2000 _ (by simp)]
    exact w
  · right
    refine ⟨w1, w2, fun o => ?_⟩
    rw [k 2700 o (by simp), k 3000 o (by simp), k 3003 o (by simp), k 3201 o (by simp)]
    exact w3 o
theorem raw_I {x a : Nat} {v : Int32} (h : ∀ b, raw c b → raw c' b) : ∀ b, raw c b → raw (csI c' x a v) b := h
theorem raw_L {x a : Nat} {v : Int64} (h : ∀ b, raw c b → raw c' b) : ∀ b, raw c b → raw (csL c' x a v) b := h
/-- an object more -/
def nwC (c : cS) (k : Nat) : cS := cmore (csCl c (cNx c) k) (csz k)
theorem nw_ch (hn : CLN c) (k : Nat) : CH [] [] [] [] c (nwC c k) := CH_more (CH_Cl0 (fun h o y L hk e => by
  have h0 := (hn _ (Nat.le_refl _)).1
  have hoN : o ≠ cNx c := by
    rintro rfl
    have e2 : cR c y (cNx c) = .ref L := e
    have hy : y = 2700 ∨ y = 3003 ∨ y = 3201 := by unfold bdx at hk; omega
    rw [((hn _ (Nat.le_refl _)).2.1 y (by omega)).2.2] at e2
    cases e2
  rw [g_Cl_Cl, if_neg hoN] at hk
  have hL := h o y L hk e
  rw [g_Cl_Cl, if_neg (by rintro rfl; exact hL h0)]
  exact hL) (hn _ (Nat.le_refl _)).1 (CH_refl _ _ _ _ c))
theorem nw_cl (c : cS) (k : Nat) : cCl (nwC c k) (cNx c) = k := by simp [nwC, gC]
theorem nw_raw (hn : CLN c) (k : Nat) : ∀ b, raw c b → raw (nwC c k) b := raw_eq (fun a ha => ((nw_ch hn k).2.1 a ha).1) (fun _ _ _ _ => rfl) (fun _ _ => rfl) (fun a x L ha hx hL => by
  show cR c x a ≠ _
  by_cases q : a = cNx c
  · rw [q, ((hn _ (Nat.le_refl _)).2.1 x (by omega)).2.2]; simp
  · exfalso
    have e : cCl (nwC c k) a = cCl c a := by show cCl (csCl c (cNx c) k) a = _; rw [g_Cl_Cl, if_neg q]
    rw [e, ha] at hx
    omega)
theorem P_new (k : Nat) (h : RP χ n t r p f vo Op Oa Ou E O c s) : RP χ n t r p f vo Op Oa Ou E O (nwC c k) s := RP_fr (nw_ch h.2.2.1 k) (TH_refl [] [] [] [] s) (fun _ _ _ => ⟨rfl, rfl⟩) (CLN_new h.2.2.1) (by show cSl c ≤ cSl c + _; omega) (by decide) (by decide) (by simp) h
theorem KC_new (hn : CLN c) (hS : RSt r c) (k : Nat) : KC r c (nwC c k) := KC_of (nw_ch hn k) hS (by show cSl c ≤ cSl c + _; omega) (by decide)
/-- a worked part is set up -/
def wkC (c : cS) (a : Nat) (k : Int32) (v1 v2 : Value) : cS := csR (csR (csI c 3300 a k) 3301 a v1) 3302 a v2
theorem c_wk (d : Nat) {a : Nat} (k : Int32) {v1 v2 : Value} (ha : cCl c a = 33) (h1 : misR v1 = true) (h2 : misR v2 = true) : cC (d + 11) 3300 [eR (.ref a), eI k, eR v1, eR v2] c = some (.inl none, wkC c a k v1 v2) := by
  rw [kX33_init, r_cck, if_pos ha, uX33_init, kX18_init, uX18_init]
  simp only [pP, ha, h1, h2, rC, bB, Nat.reduceDiv, Nat.reduceLeDiff, Nat.reduceLT,  eq_self, if_true, if_false, true_and, and_true, false_and, and_false, or_true, true_or, or_false, false_or, reduceIte, reduceCtorEq, Nat.reduceEqDiff, not_true_eq_false, not_false_eq_true, r_misN, r_misR, gC]
  rfl
end
