set_option maxRecDepth 100000
set_option maxHeartbeats 2000000
/-! D22: what was not made is clean, in every run -/
def PN (h h' : cS) : Prop := cNx h ≤ cNx h' ∧ cSl h ≤ cSl h' ∧ (CLN h → CLN h')
theorem PN_same {h h' : cS} (h1 : cNx h' = cNx h) (h2 : cSl h ≤ cSl h') (h3 : CLN h → CLN h') : PN h h' := ⟨by omega, h2, h3⟩
theorem cak0 : cak 0 = 0 := rfl
theorem CLN_lt {h : cS} (q : CLN h) {a : Nat} (ha : cCl h a ≠ 0) : a < cNx h := Nat.lt_of_not_le (fun z => ha (q a z).1)
theorem CLN_ne {h : cS} (q : CLN h) {a b : Nat} (ha : cCl h a ≠ 0) (hb : cNx h ≤ b) : b ≠ a := by
  intro e
  have := CLN_lt q ha
  omega
theorem CLN_I {h : cS} {x a : Nat} {n : Int32} (hc : cCl h a = x / 100) (q : CLN h) : CLN (csI h x a n) := by
  intro b hb
  obtain ⟨e1, e2, e3⟩ := q b hb
  refine ⟨e1, fun y hy => ?_, e3⟩
  obtain ⟨f1, f2, f3⟩ := e2 y hy
  refine ⟨?_, f2, f3⟩
  rw [g_I_I, if_neg]
  · exact f1
  · rintro ⟨rfl, rfl⟩
    rw [e1] at hc
    omega
theorem CLN_L {h : cS} {x a : Nat} {n : Int64} (hc : cCl h a = x / 100) (q : CLN h) : CLN (csL h x a n) := by
  intro b hb
  obtain ⟨e1, e2, e3⟩ := q b hb
  refine ⟨e1, fun y hy => ?_, e3⟩
  obtain ⟨f1, f2, f3⟩ := e2 y hy
  refine ⟨f1, ?_, f3⟩
  rw [g_L_L, if_neg]
  · exact f2
  · rintro ⟨rfl, rfl⟩
    rw [e1] at hc
    omega
theorem CLN_R {h : cS} {x a : Nat} {n : Value} (hc : cCl h a = x / 100) (q : CLN h) : CLN (csR h x a n) := by
  intro b hb
  obtain ⟨e1, e2, e3⟩ := q b hb
  refine ⟨e1, fun y hy => ?_, e3⟩
  obtain ⟨f1, f2, f3⟩ := e2 y hy
  refine ⟨f1, f2, ?_⟩
  rw [g_R_R, if_neg]
  · exact f3
  · rintro ⟨rfl, rfl⟩
    rw [e1] at hc
    omega
theorem CLN_AI {h : cS} {a j : Nat} {n : Int32} (hc : cCl h a ≠ 0) (q : CLN h) : CLN (csAI h a j n) := by
  intro b hb
  obtain ⟨e1, e2, e3, e4⟩ := q b hb
  refine ⟨e1, e2, fun i => ⟨?_, (e3 i).2⟩, e4⟩
  rw [g_AI_AI, if_neg (fun z => CLN_ne q hc hb z.1)]
  exact (e3 i).1
theorem CLN_AL {h : cS} {a j : Nat} {n : Int64} (hc : cCl h a ≠ 0) (q : CLN h) : CLN (csAL h a j n) := by
  intro b hb
  obtain ⟨e1, e2, e3, e4⟩ := q b hb
  refine ⟨e1, e2, fun i => ⟨(e3 i).1, ?_, (e3 i).2.2⟩, e4⟩
  rw [g_AL_AL, if_neg (fun z => CLN_ne q hc hb z.1)]
  exact (e3 i).2.1
theorem CLN_AR {h : cS} {a j : Nat} {n : Value} (hc : cCl h a ≠ 0) (q : CLN h) : CLN (csAR h a j n) := by
  intro b hb
  obtain ⟨e1, e2, e3, e4⟩ := q b hb
  refine ⟨e1, e2, fun i => ⟨(e3 i).1, (e3 i).2.1, ?_⟩, e4⟩
  rw [g_AR_AR, if_neg (fun z => CLN_ne q hc hb z.1)]
  exact (e3 i).2.2
theorem CLN_Ls {h : cS} {a : Nat} {l : List Value} (hc : cCl h a ≠ 0) (q : CLN h) : CLN (csLs h a l) := by
  intro b hb
  obtain ⟨e1, e2, e3, e4, e5⟩ := q b hb
  refine ⟨e1, e2, e3, ?_, e5⟩
  rw [g_Ls_Ls, if_neg (CLN_ne q hc hb)]
  exact e4
theorem CLN_Cap {h : cS} {a n : Nat} (hc : cCl h a ≠ 0) (q : CLN h) : CLN (csCap h a n) := by
  intro b hb
  obtain ⟨e1, e2, e3, e4, e5, e6⟩ := q b hb
  refine ⟨e1, e2, e3, e4, ?_, e6⟩
  rw [g_Cap_Cap, if_neg (CLN_ne q hc hb)]
  exact e5
theorem CLN_Cl {h : cS} {a t : Nat} (hc : cCl h a ≠ 0) (q : CLN h) : CLN (csCl h a t) := by
  intro b hb
  obtain ⟨e1, e2⟩ := q b hb
  refine ⟨?_, e2⟩
  rw [g_Cl_Cl, if_neg (CLN_ne q hc hb)]
  exact e1
theorem CLN_more {h : cS} {n : Nat} (q : CLN h) : CLN (cmore h n) := fun b hb => q b (by rw [g_Nx_more] at hb; omega)
theorem CLN_new {h : cS} {t n : Nat} (q : CLN h) : CLN (cmore (csCl h (cNx h) t) n) := by
  intro b hb
  simp only [gC] at hb
  obtain ⟨e1, e2⟩ := q b (by omega)
  refine ⟨?_, e2⟩
  simp only [gC]
  rw [if_neg (by omega)]
  exact e1
theorem CLN_newa {h : cS} {t n m : Nat} (q : CLN h) : CLN (cmore (csLen (csCl h (cNx h) t) (cNx h) n) m) := by
  intro b hb
  simp only [gC] at hb
  obtain ⟨e1, e2, e3, e4, e5, e6⟩ := q b (by omega)
  refine ⟨?_, e2, e3, e4, e5, ?_⟩
  · simp only [gC]
    rw [if_neg (by omega)]
    exact e1
  · simp only [gC]
    rw [if_neg (by omega)]
    exact e6
theorem CLN_fAI {h : cS} {a : Nat} {F : Nat → Int32} (hc : a < cNx h) (q : CLN h) : CLN (cfAI h a F) := by
  intro b hb
  have hb' : cNx h ≤ b := hb
  obtain ⟨e1, e2, e3, e4⟩ := q b hb
  refine ⟨e1, e2, fun i => ⟨?_, (e3 i).2⟩, e4⟩
  rw [g_AI_fAI, if_neg (by omega)]
  exact (e3 i).1
theorem CLN_fAL {h : cS} {a : Nat} {F : Nat → Int64} (hc : a < cNx h) (q : CLN h) : CLN (cfAL h a F) := by
  intro b hb
  have hb' : cNx h ≤ b := hb
  obtain ⟨e1, e2, e3, e4⟩ := q b hb
  refine ⟨e1, e2, fun i => ⟨(e3 i).1, ?_, (e3 i).2.2⟩, e4⟩
  rw [g_AL_fAL, if_neg (by omega)]
  exact (e3 i).2.1
theorem PN_refl (h : cS) : PN h h := ⟨Nat.le_refl _, Nat.le_refl _, id⟩
theorem PN_ret {h h1 : cS} {x : mE} {r : mRes × cS} (hr : cret x h1 = some r) (q : PN h h1) : PN h r.2 := by
  cases hr; exact q
theorem PN_v {h h1 : cS} {r : mRes × cS} (hr : (some (.inl none, h1) : cRes) = some r) (q : PN h h1) : PN h r.2 := by
  cases hr; exact q
theorem PN_if {c : Prop} [Decidable c] {h : cS} {a b : cRes} {r : mRes × cS} (hr : (if c then a else b) = some r) (ha : c → a = some r → PN h r.2) (hb : ¬ c → b = some r → PN h r.2) : PN h r.2 := by
  by_cases q : c
  · rw [if_pos q] at hr; exact ha q hr
  · rw [if_neg q] at hr; exact hb q hr
theorem PN_no {h : cS} {r : mRes × cS} (hr : (none : cRes) = some r) : PN h r.2 := by cases hr
theorem cak_ne {h : cS} {a k : Nat} (e : cak (cCl h a) = k) (hk : k ≠ 0) : cCl h a ≠ 0 := by
  intro q; rw [q, cak0] at e; exact hk e.symm
theorem isL_ne {h : cS} {a : Nat} (e : cisL h a = true) : cCl h a ≠ 0 := by
  intro q; unfold cisL at e; rw [q] at e; exact absurd e (by decide)
theorem raw_ne {h : cS} {a : Nat} (e : cak (cCl h a - 5000) = 9) : cCl h a ≠ 0 := by
  intro q; rw [q] at e; exact absurd e (by decide)
theorem PN_prim : ∀ m as h r, cPrim m as h = some r → PN h r.2 := by
  intro m as h r q
  unfold cPrim at q
  split at q
  · exact PN_if q (fun z q => PN_v q ⟨by show cNx h ≤ cNx h + 1; omega, by show cSl h ≤ cSl h + _; omega, fun w => CLN_more (CLN_Cap (by rw [g_Cl_Cl, if_pos rfl]; intro e; rw [e] at z; exact absurd z.1 (by decide)) (CLN_Cl (raw_ne z.1) w))⟩) (fun _ q => PN_no q)
  · exact PN_if q (fun z q => PN_v q ⟨Nat.le_refl _, Nat.le_refl _, fun w => CLN_Cl (raw_ne z) w⟩) (fun _ q => PN_no q)
  · exact PN_if q (fun _ q => PN_ret q (PN_refl _)) (fun _ q => PN_no q)
  · exact PN_if q (fun _ q => PN_ret q (PN_refl _)) (fun _ q => PN_no q)
  · exact PN_if q (fun z q => PN_if q (fun _ q => PN_ret q ⟨Nat.le_refl _, Nat.le_refl _, fun w => CLN_Ls (isL_ne z.1) w⟩) (fun _ q => PN_ret q ⟨by show cNx h ≤ cNx h + 1; omega, by show cSl h ≤ cSl h + _; omega, fun w => CLN_more (CLN_Cap (isL_ne z.1) (CLN_Ls (isL_ne z.1) w))⟩)) (fun _ q => PN_no q)
  · exact PN_if q (fun z q => PN_ret q ⟨Nat.le_refl _, Nat.le_refl _, fun w => CLN_Ls (isL_ne z.1) w⟩) (fun _ q => PN_no q)
  · exact PN_if q (fun z q => PN_ret q ⟨Nat.le_refl _, Nat.le_refl _, fun w => CLN_Ls (isL_ne z.1) w⟩) (fun _ q => PN_no q)
  · exact PN_if q (fun z q => PN_v q ⟨Nat.le_refl _, Nat.le_refl _, fun w => CLN_Ls (isL_ne z) w⟩) (fun _ q => PN_no q)
  · exact PN_if q (fun _ q => PN_ret q (PN_refl _)) (fun _ q => PN_ret q ⟨by show cNx h ≤ cNx h + 1; omega, by show cSl h ≤ cSl h + _; omega, fun w => CLN_more w⟩)
  · exact PN_ret q (PN_refl _)
  · exact PN_if q (fun _ q => PN_ret q (PN_refl _)) (fun _ q => PN_ret q ⟨by show cNx h ≤ cNx h + 1; omega, by show cSl h ≤ cSl h + _; omega, fun w => CLN_more w⟩)
  · exact PN_ret q (PN_refl _)
  · exact PN_if q (fun _ q => PN_ret q ⟨by show cNx h ≤ cNx h + 1; omega, by show cSl h ≤ cSl h + _; omega, fun w => CLN_fAI (by show cNx h < cNx h + 1; omega) (CLN_newa w)⟩) (fun _ q => PN_no q)
  · exact PN_if q (fun _ q => PN_ret q ⟨by show cNx h ≤ cNx h + 1; omega, by show cSl h ≤ cSl h + _; omega, fun w => CLN_fAI (by show cNx h < cNx h + 1; omega) (CLN_newa w)⟩) (fun _ q => PN_no q)
  · exact PN_if q (fun _ q => PN_ret q ⟨by show cNx h ≤ cNx h + 1; omega, by show cSl h ≤ cSl h + _; omega, fun w => CLN_fAL (by show cNx h < cNx h + 1; omega) (CLN_newa w)⟩) (fun _ q => PN_no q)
  · exact PN_ret q (PN_refl _)
  · exact PN_if q (fun _ q => PN_no q) (fun _ q => PN_ret q (PN_refl _))
  · exact PN_ret q (PN_refl _)
  · exact PN_if q (fun _ q => PN_v q (PN_refl _)) (fun _ q => PN_no q)
  · exact PN_if q (fun _ q => PN_v q (PN_refl _)) (fun _ q => PN_no q)
  · exact PN_if q (fun _ q => PN_v q (PN_refl _)) (fun _ q => PN_no q)
  · exact PN_if q (fun _ q => PN_no q) (fun _ q => PN_v q (PN_refl _))
  · exact PN_no q
theorem PN_bear : cBear PN := by
  have hk : ∀ {h : cS} {a : Nat}, 1 ≤ cak (cCl h a) ∧ cak (cCl h a) ≤ 7 → cCl h a ≠ 0 := by
    intro h a z e
    rw [e, cak0] at z
    omega
  refine ⟨PN_refl, fun a b c x y => ⟨Nat.le_trans x.1 y.1, Nat.le_trans x.2.1 y.2.1, fun w => y.2.2 (x.2.2 w)⟩, ?_, ?_, ?_, ?_, ?_, ?_, ?_, ?_, PN_prim⟩
  · intro h x a n z; exact ⟨Nat.le_refl _, Nat.le_refl _, fun w => CLN_I z w⟩
  · intro h x a n z; exact ⟨Nat.le_refl _, Nat.le_refl _, fun w => CLN_L z w⟩
  · intro h x a n z _; exact ⟨Nat.le_refl _, Nat.le_refl _, fun w => CLN_R z w⟩
  · intro h a j n z _; exact ⟨Nat.le_refl _, Nat.le_refl _, fun w => CLN_AI (hk z) w⟩
  · intro h a j n z _; exact ⟨Nat.le_refl _, Nat.le_refl _, fun w => CLN_AL (hk z) w⟩
  · intro h a j n z _ _; exact ⟨Nat.le_refl _, Nat.le_refl _, fun w => CLN_AR (hk z) w⟩
  · intro h t; exact ⟨by show cNx h ≤ cNx h + 1; omega, by show cSl h ≤ cSl h + _; omega, fun w => CLN_new w⟩
  · intro h t n _; exact ⟨by show cNx h ≤ cNx h + 1; omega, by show cSl h ≤ cSl h + _; omega, fun w => CLN_newa w⟩
theorem cC_cln {d m : Nat} {as : List mE} {h h' : cS} {x : mRes} (q : cC d m as h = some (x, h')) (w : CLN h) : CLN h' := (cC_keeps PN_bear d m as h (x, h') q).2.2 w
theorem cC_grow {d m : Nat} {as : List mE} {h h' : cS} {x : mRes} (q : cC d m as h = some (x, h')) : cNx h ≤ cNx h' ∧ cSl h ≤ cSl h' := ⟨(cC_keeps PN_bear d m as h (x, h') q).1, (cC_keeps PN_bear d m as h (x, h') q).2.1⟩
