set_option maxRecDepth 100000
set_option maxHeartbeats 4000000
/-! D56: the next word where the reference is ahead; a unit is made -/
def lexI : List Nat := [8, 9, 10, 11, 14, 15]
/-- what the words write, from z; all else from s -/
def ov (z s : tS) : tS := (fun x => if x ∈ lexI then z.1 x else s.1 x, fun x => if x = 12 then z.2.1 x else s.2.1 x, s.2.2.1, fun x j => if x = 13 then z.2.2.2 x j else s.2.2.2 x j)
theorem ov_tI (z s : tS) {x : Nat} (hx : x ∉ lexI) : tI (ov z s) x = tI s x := if_neg hx
theorem ov_tIz (z s : tS) {x : Nat} (hx : x ∈ lexI) : tI (ov z s) x = tI z x := if_pos hx
theorem ov_cnt (z s : tS) {x : Nat} (hx : x ∉ lexI) : cnt (ov z s) x = cnt s x := by unfold cnt; rw [ov_tI z s hx]
theorem ov_tA (z s : tS) : tA (ov z s) = tA s := rfl
theorem ov_I (z s : tS) {x : Nat} {v : Int32} (hx : x ∉ lexI) : ov z (tsI s x v) = tsI (ov z s) x v := by
  refine Prod.ext ?_ rfl
  funext y
  show (if y ∈ lexI then z.1 y else if y = x then v else s.1 y) = (if y = x then v else if y ∈ lexI then z.1 y else s.1 y)
  by_cases q : y ∈ lexI
  · rw [if_pos q, if_neg (by rintro rfl; exact hx q), if_pos q]
  · rw [if_neg q]
    by_cases w : y = x
    · rw [if_pos w, if_pos w]
    · rw [if_neg w, if_neg w, if_neg q]
theorem ov_A (z s : tS) {x j : Nat} {v : Int32} : ov z (tsA s x j v) = tsA (ov z s) x j v := rfl
theorem ov_B (z s : tS) {x j : Nat} {v : Int64} (hx : x ≠ 13) : ov z (tsB s x j v) = tsB (ov z s) x j v := by
  refine Prod.ext rfl (Prod.ext rfl (Prod.ext rfl ?_))
  funext y i
  show (if y = 13 then z.2.2.2 y i else if y = x ∧ i = j then v else s.2.2.2 y i) = (if y = x ∧ i = j then v else if y = 13 then z.2.2.2 y i else s.2.2.2 y i)
  by_cases q : y = 13
  · rw [if_pos q, if_neg (by rintro ⟨w, _⟩; exact hx (w.symm.trans q)), if_pos q]
  · rw [if_neg q]
    by_cases w : y = x ∧ i = j
    · rw [if_pos w, if_pos w]
    · rw [if_neg w, if_neg w, if_neg q]
theorem ov_self {s z : tS} (h : LFt s z) : ov z s = z := by
  obtain ⟨h1, h2, h3, h4⟩ := h
  refine Prod.ext ?_ (Prod.ext ?_ (Prod.ext h3.symm ?_))
  · funext x
    show (if x ∈ lexI then z.1 x else s.1 x) = z.1 x
    by_cases q : x ∈ lexI
    · rw [if_pos q]
    · rw [if_neg q]; exact (h1 x q).symm
  · funext x
    show (if x = 12 then z.2.1 x else s.2.1 x) = z.2.1 x
    by_cases q : x = 12
    · rw [if_pos q]
    · rw [if_neg q]; exact (h2 x q).symm
  · funext x j
    show (if x = 13 then z.2.2.2 x j else s.2.2.2 x j) = z.2.2.2 x j
    by_cases q : x = 13
    · rw [if_pos q]
    · rw [if_neg q]; exact (h4 x j q).symm
theorem LFt_ov (z s : tS) : LFt s (ov z s) := ⟨fun x hx => if_neg hx, fun x hx => if_neg hx, rfl, fun x j hx => if_neg hx⟩
section
variable {χ : Nat → Int32} {n t r p f : Nat} {vo : Nat → Nat} {Op Oa Ou : Nat → Prop} {E O : Nat} {c c' : cS} {s s' : tS}
theorem P_nextO (d e : Nat) (h : RP χ n t r p f vo Op Oa Ou E O c s) {q : tS} (h6 : tI q 6 = 0) (hI : ∀ x, x ∈ [4, 8, 9, 10, 11, 14, 15, 16] → tI q x = tI s x) (h3 : ∀ k, tA q 3 k = tA s 3 k) :
    lxBad (cC (d + 20) 1001 [eR (.ref (r + 16))] c) (cT (e + 20) 6 [eR (.ref 0)] q) c ∨ ∃ c' z p' f', cC (d + 20) 1001 [eR (.ref (r + 16))] c = some (.inl none, c') ∧ cT (e + 20) 6 [eR (.ref 0)] q = some (.inl none, z) ∧ ov z q = z ∧ WK χ n t r p vo Op Oa Ou E O c s c' (ov z s) p' f' := by
  obtain ⟨a1, a2, a3, a4, a5, ⟨a6, a7, a8⟩, a9, a10, a11⟩ := h.1.1
  have hL : LXb χ n (r + 16) t 4 (r + 19) (r + 17) p c q := ⟨a1, ⟨(hI 4 (by simp)).trans a2.1, a2.2.1, fun k hk => (h3 k).trans (a2.2.2.1 k hk), a2.2.2.2⟩, a3, a4, a5, ⟨a6, a7, (hI 16 (by simp)).trans a8⟩, a9, a10, (hI 10 (by simp)).trans a11⟩
  rcases J_next d e hL h6 with hb | ⟨c', z, p', f', h1, h2, h3'⟩
  · left; exact hb
  · right
    obtain ⟨⟨⟨b1, ⟨b2, b2a, b2b, b2c⟩, b3, b4, b5, ⟨b6, b7, b8⟩, b9, b10, b11⟩, g1, g2, g3, g4, g5⟩, j1, j2, j3, j4, j5, j6⟩ := h3'
    have hz := ov_self j5
    have zI : ∀ x, x ∉ lexI → tI z x = tI q x := fun x hx => j5.1 x hx
    refine ⟨c', z, p', f', h1, h2, hz, WK_of h (cC_cln h1 h.2.2.1) ⟨⟨⟨b1, ⟨?_, b2a, fun k hk => a2.2.2.1 k hk, b2c⟩, b3, b4, b5, ⟨b6, b7, ?_⟩, b9, b10, ?_⟩, g1, g2, ?_, ?_, ?_⟩, j1, ?_, ?_, j4, LFt_ov z s, ?_⟩⟩
    · rw [ov_tI z s (by decide)]; exact a2.1
    · rw [ov_tI z s (by decide)]; exact a8
    · rw [ov_tIz z s (by decide)]; exact b11
    · rw [ov_tIz z s (by decide)]; exact g3
    · rw [ov_tIz z s (by decide)]; exact g4
    · have e8 : tI (ov z s) 8 = tI z 8 := ov_tIz z s (by decide)
      have e11 : tI (ov z s) 11 = tI z 11 := ov_tIz z s (by decide)
      have e14 : tI (ov z s) 14 = tI z 14 := ov_tIz z s (by decide)
      have e15 : tI (ov z s) 15 = tI z 15 := ov_tIz z s (by decide)
      have e12 : tL (ov z s) 12 = tL z 12 := show (if (12 : Nat) = 12 then z.2.1 12 else s.2.1 12) = _ from if_pos rfl
      have e13 : ∀ i, tB (ov z s) 13 i = tB z 13 i := fun i => show (if (13 : Nat) = 13 then z.2.2.2 13 i else s.2.2.2 13 i) = _ from if_pos rfl
      unfold LW at g5 ⊢
      simp only [e8, e11, e14, e15, e12, e13]
      exact g5
    · rw [ov_tI z s (by decide)]; exact h.2.1
    · rw [ov_tI z s (by decide)]
    · rw [ov_tIz z s (by decide)]; exact j6
/-- the reference's unit: its number u, sort, module, around it; where it began, the name at hand then -/
def nuT (s : tS) (u : Nat) (so m w pl : Int32) (nam : Int64) : tS := tsB (tsA (tsA (tsA (tsA (tsA (tsA (tsA (tsA (tsA (tsI s 35 (Int32.ofNat (u + 1))) 36 u so) 37 u m) 38 u pl) 39 u 0) 40 u w) 44 u 0) 46 u 0) 42 u (-1)) 55 u (-1)) 43 u nam
theorem nu_th (s : tS) (u : Nat) (so m w pl : Int32) (nam : Int64) : TH [35] [] [36, 37, 38, 39, 40, 42, 44, 46, 55] [43] s (nuT s u so m w pl nam) := TH_B (by simp) (TH_A (by simp) (TH_A (by simp) (TH_A (by simp) (TH_A (by simp) (TH_A (by simp) (TH_A (by simp) (TH_A (by simp) (TH_A (by simp) (TH_A (by simp) (TH_I (by simp) (TH_refl _ _ _ _ s)))))))))))
theorem nu_old (s : tS) (u : Nat) (so m w pl : Int32) (nam : Int64) : (∀ z k, k ≠ u → tA (nuT s u so m w pl nam) z k = tA s z k) ∧ (∀ k, k ≠ u → tB (nuT s u so m w pl nam) 43 k = tB s 43 k) := by
  refine ⟨fun z k hk => ?_, fun k hk => ?_⟩ <;> simp [nuT, gT, hk]
theorem nu_new (s : tS) (u : Nat) (so m w pl : Int32) (nam : Int64) : tI (nuT s u so m w pl nam) 35 = Int32.ofNat (u + 1) ∧ tA (nuT s u so m w pl nam) 36 u = so ∧ tA (nuT s u so m w pl nam) 37 u = m ∧ tA (nuT s u so m w pl nam) 38 u = pl ∧ tA (nuT s u so m w pl nam) 39 u = 0 ∧ tA (nuT s u so m w pl nam) 40 u = w ∧ tA (nuT s u so m w pl nam) 44 u = 0 ∧ tA (nuT s u so m w pl nam) 46 u = 0 ∧ tA (nuT s u so m w pl nam) 42 u = -1 ∧ tA (nuT s u so m w pl nam) 55 u = -1 ∧ tB (nuT s u so m w pl nam) 43 u = nam := by
  refine ⟨?_, ?_, ?_, ?_, ?_, ?_, ?_, ?_, ?_, ?_, ?_⟩ <;> simp [nuT, gT]
theorem t_newUnit (d : Nat) (so m w : Int32) (hfi : tI s 6 = 0) (h35 : tI s 35 = Int32.ofNat (cnt s 35)) (hlt : cnt s 35 < 60) : cT (d + 2) 37 [eR (.ref 0), eI so, eI m, eI w] s = some (.inl (some (eI (Int32.ofNat (cnt s 35)))), nuT s (cnt s 35) so m w (tI s 9) (tL s 12)) := by
  have hne : ¬ tI s 35 = (60 : Int32) := by
    rw [h35, show (60 : Int32) = Int32.ofNat 60 from rfl, z_eq (by omega) (by decide)]; omega
  rw [kX7_newUnit, uX7_newUnit, t_fine]
  simp only [hfi, decide_true, bi_t, b_I, e10, if_false, hne]
  unfold nuT
  generalize cnt s 35 = u at h35 hlt ⊢
  have hadd : Int32.ofNat u + 1 = Int32.ofNat (u + 1) := by rw [show (1 : Int32) = Int32.ofNat 1 from rfl, z_add]
  rw [h35, hadd, r_tpI, qs_36 hlt, qs_37 hlt, qs_38 hlt, qs_39 hlt, qs_40 hlt, qs_44 hlt, qs_46 hlt, qs_42 hlt, qs_55 hlt, qs_43 hlt]
  rfl
theorem t_noUnit (d : Nat) (so m w : Int32) (hfi : tI s 6 = 0) (h35 : tI s 35 = (60 : Int32)) : cT (d + 3) 37 [eR (.ref 0), eI so, eI m, eI w] s = some (.inl (some (eI 0)), fH s 4 (tI s 9)) := by
  rw [kX7_newUnit, uX7_newUnit, t_fine]
  simp only [hfi, decide_true, bi_t, b_I, e10, if_false, h35, if_true, t_fails, b_V]
theorem anc_up (hU : RUt r c s) : ∀ g w v, w < cnt s 35 → anc s g w v → ∀ g', w < g' → anc s g' w v := by
  intro g
  induction g with
  | zero => intro w v _ h; exact absurd h (by simp [anc])
  | succ g ih =>
    intro w v hw h g' hg
    obtain ⟨g'', rfl⟩ : ∃ k, g' = k + 1 := ⟨g' - 1, by omega⟩
    unfold anc at h ⊢
    rcases h with h | ⟨h1, h2⟩
    · left; exact h
    · right
      have := u_out hU hw h1
      exact ⟨h1, ih _ v (by omega) h2 g'' (by omega)⟩
/-- the component makes a unit, the reference has one more -/
theorem P_unit (d : Nat) {so : Nat} {pl : Int32} {nam : Int64} (hso : 1 ≤ so ∧ so ≤ 4) (h : RP χ n t r p f vo Op Oa Ou E O c s) (hlt : cnt s 35 < 60) :
    ∃ c', cC (d + 12) 811 [eR (.ref r), eI (Int32.ofNat so), eI pl] c = some (.inl (some (eR (.ref (cNx c)))), c') ∧ RP χ n t r p f vo Op Oa (fun k => Ou k ∨ k = cnt s 35) E O c' (nuT s (cnt s 35) (Int32.ofNat so) (tA s 37 (cnt s 64)) (tI s 64) pl nam) ∧ KC r c c' ∧ KT s (nuT s (cnt s 35) (Int32.ofNat so) (tA s 37 (cnt s 64)) (tI s 64) pl nam) ∧
      (∀ b, raw c b → raw c' b) ∧ cNx c' ≤ cNx c + 8 ∧ cSl c' ≤ cSl c + 200 ∧ lid c' (r + 8) (cnt s 35) = cNx c ∧ cCl c' (cNx c) = 16 ∧ (∀ b, cCl c b ≠ 0 → b ≠ r + 8 → cLs c' b = cLs c b) := by
  have h0 := h
  have hn := h.2.2.1
  have hR2 := P_new 16 h
  have hS2 := hR2.2.2.2.1.1
  have hI2 := hR2.2.2.2.1.2.2.2.2.2.2.2.1
  have hU2 := hR2.2.2.2.1.2.2.2.2.2.1
  have hso1 : ¬ (Int32.ofNat so = 0) := by rw [show (0 : Int32) = Int32.ofNat 0 from rfl, z_eq (by omega) (by decide)]; omega
  have hnw : cmore (csCl c (cNx c) 16) (csz 16) = nwC c 16 := rfl
  have e1 := c_ui (c := c) (d + 1) (n := Int32.ofNat (cnt s 35)) (s := Int32.ofNat so) (p := pl) (m := .ref (lid (nwC c 16) (r + 4) (cnt s 25 - 1))) (o := .ref (lid (nwC c 16) (r + 8) (cnt s 64))) rfl rfl
  have hfr := ui_FR hn (Int32.ofNat (cnt s 35)) (Int32.ofNat so) pl (.ref (lid (nwC c 16) (r + 4) (cnt s 25 - 1))) (.ref (lid (nwC c 16) (r + 8) (cnt s 64)))
  have hnf := ui_NF c (Int32.ofNat (cnt s 35)) (Int32.ofNat so) pl (.ref (lid (nwC c 16) (r + 4) (cnt s 25 - 1))) (.ref (lid (nwC c 16) (r + 8) (cnt s 64)))
  obtain ⟨nx1, sl1⟩ := ui_facts c (Int32.ofNat (cnt s 35)) (Int32.ofNat so) pl (.ref (lid (nwC c 16) (r + 4) (cnt s 25 - 1))) (.ref (lid (nwC c 16) (r + 8) (cnt s 64)))
  have hcl1 := cC_cln e1 hR2.2.2.1
  have ne : ∀ i, 0 < i → cNx c ≠ cNx c + i := fun i hi => by omega
  have g1 : cCl (uiC c (Int32.ofNat (cnt s 35)) (Int32.ofNat so) pl (.ref (lid (nwC c 16) (r + 4) (cnt s 25 - 1))) (.ref (lid (nwC c 16) (r + 8) (cnt s 64)))) (cNx c) = 16 := by simp [uiC, nlC, nwC, gC, Nat.add_assoc]
  have g2 : ∀ i k, (i = 1 ∧ k = 6605) ∨ (i = 3 ∧ k = 6614) ∨ (i = 5 ∧ k = 6617) → cCl (uiC c (Int32.ofNat (cnt s 35)) (Int32.ofNat so) pl (.ref (lid (nwC c 16) (r + 4) (cnt s 25 - 1))) (.ref (lid (nwC c 16) (r + 8) (cnt s 64)))) (cNx c + i) = k := by
    rintro i k (⟨rfl, rfl⟩ | ⟨rfl, rfl⟩ | ⟨rfl, rfl⟩) <;> simp [uiC, nlC, nwC, gC]
  have g3 : ∀ x v, (x = 1600 ∧ v = Int32.ofNat (cnt s 35)) ∨ (x = 1601 ∧ v = Int32.ofNat so) ∨ (x = 1602 ∧ v = pl) ∨ (x = 1610 ∧ v = -1) → cI (uiC c (Int32.ofNat (cnt s 35)) (Int32.ofNat so) pl (.ref (lid (nwC c 16) (r + 4) (cnt s 25 - 1))) (.ref (lid (nwC c 16) (r + 8) (cnt s 64)))) x (cNx c) = v := by
    rintro x v (⟨rfl, rfl⟩ | ⟨rfl, rfl⟩ | ⟨rfl, rfl⟩ | ⟨rfl, rfl⟩) <;> simp [uiC, nlC, nwC, gC]
  have g4 : ∀ x v, (x = 1603 ∧ v = .ref (lid (nwC c 16) (r + 4) (cnt s 25 - 1))) ∨ (x = 1604 ∧ v = .ref (lid (nwC c 16) (r + 8) (cnt s 64))) ∨ (x = 1605 ∧ v = .ref (cNx c + 1)) ∨ (x = 1614 ∧ v = .ref (cNx c + 3)) ∨ (x = 1617 ∧ v = .ref (cNx c + 5)) → cR (uiC c (Int32.ofNat (cnt s 35)) (Int32.ofNat so) pl (.ref (lid (nwC c 16) (r + 4) (cnt s 25 - 1))) (.ref (lid (nwC c 16) (r + 8) (cnt s 64)))) x (cNx c) = v := by
    rintro x v (⟨rfl, rfl⟩ | ⟨rfl, rfl⟩ | ⟨rfl, rfl⟩ | ⟨rfl, rfl⟩ | ⟨rfl, rfl⟩) <;> simp [uiC, nlC, nwC, gC]
  have g5 : ∀ x, x ∈ [1607, 1608, 1612, 1613, 1615, 1616] → cI (uiC c (Int32.ofNat (cnt s 35)) (Int32.ofNat so) pl (.ref (lid (nwC c 16) (r + 4) (cnt s 25 - 1))) (.ref (lid (nwC c 16) (r + 8) (cnt s 64)))) x (cNx c) = 0 := by
    intro x hx
    have := ((hn _ (Nat.le_refl _)).2.1 x (by simp only [List.mem_cons, List.not_mem_nil, or_false] at hx; omega)).1
    simp only [List.mem_cons, List.not_mem_nil, or_false] at hx
    rcases hx with rfl | rfl | rfl | rfl | rfl | rfl <;> simp [uiC, nlC, nwC, gC, this]
  have g6 : cL (uiC c (Int32.ofNat (cnt s 35)) (Int32.ofNat so) pl (.ref (lid (nwC c 16) (r + 4) (cnt s 25 - 1))) (.ref (lid (nwC c 16) (r + 8) (cnt s 64)))) 1606 (cNx c) = 0 := by
    have := ((hn _ (Nat.le_refl _)).2.1 1606 (by decide)).2.1
    simp [uiC, nlC, nwC, gC, this]
  have g7 : ∀ i, cLs (uiC c (Int32.ofNat (cnt s 35)) (Int32.ofNat so) pl (.ref (lid (nwC c 16) (r + 4) (cnt s 25 - 1))) (.ref (lid (nwC c 16) (r + 8) (cnt s 64)))) (cNx c + i) = [] := fun i => (hn (cNx c + i) (by omega)).2.2.2.1
  generalize uiC c (Int32.ofNat (cnt s 35)) (Int32.ofNat so) pl (.ref (lid (nwC c 16) (r + 4) (cnt s 25 - 1))) (.ref (lid (nwC c 16) (r + 8) (cnt s 64))) = c1 at *
  have hR1 := RP_FR hfr hnf hcl1 h
  obtain ⟨hL, hfi, hn1, hQ, hN, hOu, hOp, hOa, hOu2⟩ := hR1
  obtain ⟨hS, hC, hG, hLm, hM, hU, hV, hI, hF, hA, hB⟩ := hQ
  have hlen := hU.2.1.1
  have h60 := hU.1.2
  obtain ⟨c', e2, hLA⟩ := c_add (d + 2) (RSt_uL hS) rfl (by rw [hlen]; omega) (.ref (cNx c))
  obtain ⟨o1, o2⟩ := nu_old s (cnt s 35) (Int32.ofNat so) (tA s 37 (cnt s 64)) (tI s 64) pl nam
  obtain ⟨w1, w2, w3, w4, w5, w6, w7, w8, w9, w10, w11⟩ := nu_new s (cnt s 35) (Int32.ofNat so) (tA s 37 (cnt s 64)) (tI s 64) pl nam
  have hth := nu_th s (cnt s 35) (Int32.ofNat so) (tA s 37 (cnt s 64)) (tI s 64) pl nam
  generalize nuT s (cnt s 35) (Int32.ofNat so) (tA s 37 (cnt s 64)) (tI s 64) pl nam = s' at *
  have hNU : NU r c1 c' s s' (cNx c) := ⟨hLA, hth, w1, hlt, o1, o2⟩
  have hch := NU_ch hNU hS
  have hu64 := hI.1.2.1
  have e64 := hI.1.1.1
  have e803 := hI.1.2.2
  have hmod := hI.2.1
  have hrun : cC (d + 12) 811 [eR (.ref r), eI (Int32.ofNat so), eI pl] c = some (.inl (some (eR (.ref (cNx c)))), c') := by
    rw [kX8_open, r_cck, if_pos h.2.2.2.1.1.1, uX8_open, r_cnw, hnw, r_cgR, if_pos hS2.1, hS2.2.2.1, r_cgR, if_pos hS2.2.2.2.2.1, hS2.2.2.2.2.2.1.2.2.2.1, c_len (d + 2) (RSt_uL hS2) rfl, b_I, r_cgR, if_pos hS2.1, hI2.2.1.2.1, if_neg hso1, r_cgR, if_pos hS2.1, hI2.1.2.2, hU2.2.1.1, uX8_open_16]
    rw [e1, b_V, r_cgR, if_pos hS.1, hS.2.2.1, r_cgR, if_pos hS.2.2.2.2.1, hS.2.2.2.2.2.1.2.2.2.1, e2, b_I]
  have hKC : KC r c c' := KC_trans (by rw [RP_len h0, hlen]; exact Nat.le_refl _) (FR_kc hfr hnf h0.2.2.2.1.1) (NU_kc hNU hS hlen)
  have hKT := NU_kt hNU (fun v hv => (hV.2.1 v hv).2.2.1)
  have e35 := NU_35 hNU
  have hnewU : uOK r c' s' (cnt s 35) (cNx c) := by
    have hcI := hLA.2.1.1
    have hcL := hLA.2.1.2.1
    have hcR := hLA.2.1.2.2.1
    have hcC := hLA.2.1.2.2.2.2.2.1
    have a37 := ((hU.2.2 _ hu64).2.1).1
    have e37 : tA s' 37 (cnt s 35) = Int32.ofNat (cnt s 25 - 1) := by rw [w3, a37.1, hmod.2.2]
    have h25 := hM.1.2
    have c37 := ca_of e37 (by omega)
    have e40 : tA s' 40 (cnt s 35) = Int32.ofNat (cnt s 64) := w6.trans e64
    have c40 := ca_of e40 (by omega)
    have hl4 : lid c1 (r + 4) (cnt s 25 - 1) = lid c (r + 4) (cnt s 25 - 1) := by unfold lid; rw [(hfr.2.2 (r + 4) (by rw [RSt_mL h0.2.2.2.1.1]; decide)).2.2.1]
    have hl8 : lid c1 (r + 8) (cnt s 64) = lid c (r + 8) (cnt s 64) := by unfold lid; rw [(hfr.2.2 (r + 8) (by rw [RSt_uL h0.2.2.2.1.1]; decide)).2.2.1]
    have how : ow s' (cnt s 35) = 0 := by
      unfold ow
      rw [w2, if_neg hso1]
      unfold ca
      rw [w5, w8]; rfl
    refine ⟨⟨by rw [hcI, g3 1600 _ (Or.inl ⟨rfl, rfl⟩)], aok_of w2 (by omega) (by omega), by rw [hcI, g3 1601 _ (Or.inr (Or.inl ⟨rfl, rfl⟩)), w2], by rw [hcI, g3 1602 _ (Or.inr (Or.inr (Or.inl ⟨rfl, rfl⟩))), w4]⟩, ⟨aok_of e37 (by omega) (by omega), by rw [c37, th_cnt hth (by decide)]; have := hmod.1; omega, ?_⟩, Or.inr ⟨aok_of e40 (by omega) (by omega), by rw [c40]; exact hu64, by rw [w2]; exact hso1, ?_⟩, ⟨by rw [hcR]; exact g4 1605 _ (Or.inr (Or.inr (Or.inl ⟨rfl, rfl⟩))), by rw [hcC]; exact g2 1 _ (Or.inl ⟨rfl, rfl⟩), by rw [hcR]; exact g4 1614 _ (Or.inr (Or.inr (Or.inr (Or.inl ⟨rfl, rfl⟩)))), by rw [hcC]; exact g2 3 _ (Or.inr (Or.inl ⟨rfl, rfl⟩)), by rw [hcR]; exact g4 1617 _ (Or.inr (Or.inr (Or.inr (Or.inr ⟨rfl, rfl⟩)))), by rw [hcC]; exact g2 5 _ (Or.inr (Or.inr ⟨rfl, rfl⟩))⟩, by rw [if_neg (by rw [w2]; exact hso1), hcL]; exact g6, ⟨aok_of (k := 0) w5 (by decide) (by decide), by rw [hcI, g5 1607 (by simp), w5]⟩, ⟨aok_of (k := 0) w8 (by decide) (by decide), by rw [hcI, g5 1608 (by simp), how]; rfl⟩, by rw [hcI, w9]; exact g3 1610 _ (Or.inr (Or.inr (Or.inr ⟨rfl, rfl⟩))), Or.inl w9⟩
    · rw [c37, hcR, g4 1603 _ (Or.inl ⟨rfl, rfl⟩), NU_ll hNU hS (RSt_mL hS) (by decide), hl4]; rfl
    · rw [c40, hcR, g4 1604 _ (Or.inr (Or.inl ⟨rfl, rfl⟩)), (NU_lid hNU hlen hu64).1, hl8]; rfl
  refine ⟨c', hrun, ⟨LX_ch hch hth (by rw [hLA.2.1.2.2.2.1]) (by rw [hLA.2.1.2.2.2.2.1]) (by decide) hL, by rw [th_I hth (by decide)]; exact hfi, cC_cln hrun hn, ⟨RSt_fr hch (by decide) hS, RCt_fr hch hth hS (by decide) hC, RGt_fr hch hth hS (by decide) hG, RLt_fr hch hth hS (by decide) hLm, NU_RMt hNU hS hU hM, NU_RUt hNU hS hU g1 hnewU, NU_RVt hNU hS hU hV w7 (g7 1) (g2 1 _ (Or.inl ⟨rfl, rfl⟩)), NU_RIt hNU hS hU hI, NU_RFt hNU hS hU hF (fun y hy => g5 y (by simp only [List.mem_cons, List.not_mem_nil, or_false] at hy ⊢; omega)) ⟨g7 3, g2 3 _ (Or.inr (Or.inl ⟨rfl, rfl⟩))⟩ ⟨g7 5, g2 5 _ (Or.inr (Or.inr ⟨rfl, rfl⟩))⟩, RAt_fr hch hth hS (by decide) hA, NU_RBt hNU hS hU hV hB⟩, ?_, Or.inl (by rw [th_cnt hth (by decide)]; exact hOu), ?_, ?_, ?_⟩, hKC, hKT, fun b q => LA_raw hLA (RSt_uL hS) (by decide) b (FR_raw hfr hnf b q), by have := hLA.1.2.1; omega, ?_, (NU_new hNU hlen).1, by rw [hLA.2.1.2.2.2.2.2.1]; exact g1, fun b hb hne => (hLA.2.2.2 b hne).trans (hfr.2.2 b hb).2.2.1⟩
  · obtain ⟨Lt, l1, l2, l3, l4⟩ := hN
    refine ⟨Lt, fun k hk => ?_, ?_, l3, by rw [th_cnt hth (by decide)]; exact l4⟩
    · rw [e35] at hk
      by_cases q : k = cnt s 35
      · have : ca s' 46 k = 0 := by unfold ca; rw [q, w8]; rfl
        omega
      · rw [ca_eq (o1 46 k q)]; exact l1 k (by omega)
    · rw [th_cnt hth (by decide), e35]; omega
  · intro y hy
    rw [th_ca hth (by decide), th_cnt hth (by decide)]
    exact ⟨Or.inl (hOp y hy).1, (hOp y hy).2⟩
  · intro k hk; rw [th_cnt hth (by decide)]; exact hOa k hk
  · intro k hk
    rw [e35]
    rcases hk with q | q
    · have := hOu2 k q; omega
    · omega
  · have := hLA.1.2.2.2
    rw [hlen] at this; omega
end
