set_option maxRecDepth 100000
set_option maxHeartbeats 2000000
/-! D20: flags, bodies stay; more turns -/
section
variable {XI XL XR XC YI YL YA YB : List Nat} {c c' : cS} {s s' : tS} {r : Nat}
theorem TR_up {Q : Nat → Prop} : ∀ g u H D a x W, TR g Q r c s u H D a x W → TR (g + 1) Q r c s u H D a x W := by
  intro g
  induction g with
  | zero => intro u H D a x W h; exact absurd h (by unfold TR; exact id)
  | succ g ih =>
    intro u H D a x W h
    have hc : ∀ H D l p W, chn (fun b y W => Q y ∧ TR g Q r c s u H D b y W) s l p W → chn (fun b y W => Q y ∧ TR (g + 1) Q r c s u H D b y W) s l p W := fun H D l p W q => chn_wk (fun a y W z => ⟨z.1, ih _ _ _ _ _ _ z.2⟩) q
    rw [TR] at h
    rw [TR]
    rcases h with ⟨h1, L, b, h2, h3, h4, h5⟩ | ⟨n1, n2, n3, n4, n5, n6, h⟩
    · left; exact ⟨h1, L, b, h2, h3, h4, ih _ _ _ _ _ _ h5⟩
    · right
      refine ⟨n1, n2, n3, n4, n5, n6, ?_⟩
      rcases h with h | h | h | h | h | h | h | h | h | h | h | h | h | h
      · left; exact h
      · right; left; exact h
      · right; right; left; exact h
      · right; right; right; left
        obtain ⟨e1, e2, e3, e4, a1, W1, e5, e6, e7⟩ := h
        exact ⟨e1, e2, e3, e4, a1, W1, e5, hc _ _ _ _ _ e6, e7⟩
      · right; right; right; right; left
        obtain ⟨e1, e2, e3, e4, a1, a2, y, W1, W2, e5, e6, e7, e8, e9, e10, e11, e12, e13⟩ := h
        exact ⟨e1, e2, e3, e4, a1, a2, y, W1, W2, e5, e6, e7, e8, e9, e10, ih _ _ _ _ _ _ e11, hc _ _ _ _ _ e12, e13⟩
      · right; right; right; right; right; left
        obtain ⟨e1, e2, e3, e4, a1, l, y, W1, W2, e5, e6, e7, e8, e9, e10, e11, e12, e13⟩ := h
        exact ⟨e1, e2, e3, e4, a1, l, y, W1, W2, e5, e6, e7, e8, e9, e10, ih _ _ _ _ _ _ e11, hc _ _ _ _ _ e12, e13⟩
      · right; right; right; right; right; right; left
        obtain ⟨e1, e2, e3, e4, e5, e6, e7, e8, a1, L, l, y, W1, W2, f1, f2, f3, f4, f5, f6, f7, f8, f9, f10, f11, f12, f13⟩ := h
        exact ⟨e1, e2, e3, e4, e5, e6, e7, e8, a1, L, l, y, W1, W2, f1, f2, f3, f4, f5, f6, f7, f8, f9, f10, ih _ _ _ _ _ _ f11, hc _ _ _ _ _ f12, f13⟩
      · right; right; right; right; right; right; right; left
        obtain ⟨e1, e2, e7, e8, a1, L, l, y, W1, W2, f1, f2, f3, f4, f5, f6, f7, f8, f9, f10, f11, f12, f13⟩ := h
        exact ⟨e1, e2, e7, e8, a1, L, l, y, W1, W2, f1, f2, f3, f4, f5, f6, f7, f8, f9, f10, ih _ _ _ _ _ _ f11, hc _ _ _ _ _ f12, f13⟩
      · right; right; right; right; right; right; right; right; left
        obtain ⟨e1, e2, e3, e4, e5, e6, e7, e8, e9⟩ := h
        refine ⟨e1, e2, e3, e4, e5, e6, e7, e8, ?_⟩
        rcases e9 with e9 | e9 | ⟨f1, f2, a1, W1, f3, f4, f5⟩
        · left; exact e9
        · right; left; exact e9
        · right; right; exact ⟨f1, f2, a1, W1, f3, hc _ _ _ _ _ f4, f5⟩
      · right; right; right; right; right; right; right; right; right; left
        obtain ⟨e1, e2, o, v, a1, a2, W1, f1, f2, f3, f4, f5, f6, f7, f8⟩ := h
        exact ⟨e1, e2, o, v, a1, a2, W1, f1, f2, f3, f4, f5, f6, hc _ _ _ _ _ f7, f8⟩
      · right; right; right; right; right; right; right; right; right; right; left
        obtain ⟨e1, e2, a1, a2, a3, W1, f1, f2, f3, f4, f5⟩ := h
        exact ⟨e1, e2, a1, a2, a3, W1, f1, f2, f3, hc _ _ _ _ _ f4, f5⟩
      · right; right; right; right; right; right; right; right; right; right; right; left
        obtain ⟨e1, e2, e3, e4, o, v, a1, a2, y, W1, W2, f1, f2, f3, f4, f5, f6, f7, f8, f9, f10, f11, f12⟩ := h
        exact ⟨e1, e2, e3, e4, o, v, a1, a2, y, W1, W2, f1, f2, f3, f4, f5, f6, f7, f8, f9, ih _ _ _ _ _ _ f10, hc _ _ _ _ _ f11, f12⟩
      · right; right; right; right; right; right; right; right; right; right; right; right; left
        obtain ⟨e1, e2, L, l, W1, f1, f2, f3, f4, f5, f6⟩ := h
        exact ⟨e1, e2, L, l, W1, f1, f2, f3, f4, hc _ _ _ _ _ f5, f6⟩
      · right; right; right; right; right; right; right; right; right; right; right; right; right
        obtain ⟨e1, e2, e3, e4, e5, e6, e7⟩ := h
        refine ⟨e1, e2, e3, e4, e5, e6, ?_⟩
        rcases e7 with e7 | ⟨a1, W1, f1, f2, f3⟩
        · left; exact e7
        · right; exact ⟨a1, W1, f1, hc _ _ _ _ _ f2, f3⟩
theorem TR_le {Q : Nat → Prop} {g g' : Nat} (hg : g ≤ g') {u H D a x W : Nat} (h : TR g Q r c s u H D a x W) : TR g' Q r c s u H D a x W := by
  induction hg with
  | refl => exact h
  | step _ ih => exact TR_up _ _ _ _ _ _ _ ih
theorem TR_root {Q : Nat → Prop} : ∀ g u H D a x W, TR g Q r c s u H D a x W → x < cnt s 65 ∧ ca s 67 x = u := by
  intro g
  induction g with
  | zero => intro u H D a x W h; exact absurd h (by unfold TR; exact id)
  | succ g ih =>
    intro u H D a x W h
    rw [TR] at h
    rcases h with ⟨h1, L, b, h2, h3, h4, h5⟩ | ⟨n1, n2, n3, n4, n5, n6, h⟩
    · exact ih _ _ _ _ _ _ h5
    · exact ⟨n1, n3⟩
theorem TR_QQ {Q Q' : Nat → Prop} {u : Nat} (hQ : ∀ y, Q y → y < cnt s 65 → ca s 67 y = u → Q' y) : ∀ g H D a x W, TR g Q r c s u H D a x W → TR g Q' r c s u H D a x W := by
  intro g
  induction g with
  | zero => intro H D a x W h; exact h
  | succ g ih =>
    intro H D a x W h
    have hc : ∀ H D l p W, chn (fun b y W => Q y ∧ TR g Q r c s u H D b y W) s l p W → chn (fun b y W => Q' y ∧ TR g Q' r c s u H D b y W) s l p W := fun H D l p W q => chn_wk (fun a y W z => ⟨hQ y z.1 (TR_root _ _ _ _ _ _ _ z.2).1 (TR_root _ _ _ _ _ _ _ z.2).2, ih _ _ _ _ _ z.2⟩) q
    unfold TR at h ⊢
    rcases h with ⟨h1, L, b, h2, h3, h4, h5⟩ | ⟨n1, n2, n3, n4, n5, n6, h⟩
    · left; exact ⟨h1, L, b, h2, h3, h4, ih _ _ _ _ _ h5⟩
    · right
      refine ⟨n1, n2, n3, n4, n5, n6, ?_⟩
      rcases h with h | h | h | h | h | h | h | h | h | h | h | h | h | h
      · left; exact h
      · right; left; exact h
      · right; right; left; exact h
      · right; right; right; left
        obtain ⟨e1, e2, e3, e4, a1, W1, e5, e6, e7⟩ := h
        exact ⟨e1, e2, e3, e4, a1, W1, e5, hc _ _ _ _ _ e6, e7⟩
      · right; right; right; right; left
        obtain ⟨e1, e2, e3, e4, a1, a2, y, W1, W2, e5, e6, e7, e8, e9, e10, e11, e12, e13⟩ := h
        exact ⟨e1, e2, e3, e4, a1, a2, y, W1, W2, e5, e6, e7, e8, e9, hQ y e10 (TR_root _ _ _ _ _ _ _ e11).1 (TR_root _ _ _ _ _ _ _ e11).2, ih _ _ _ _ _ e11, hc _ _ _ _ _ e12, e13⟩
      · right; right; right; right; right; left
        obtain ⟨e1, e2, e3, e4, a1, l, y, W1, W2, e5, e6, e7, e8, e9, e10, e11, e12, e13⟩ := h
        exact ⟨e1, e2, e3, e4, a1, l, y, W1, W2, e5, e6, e7, e8, e9, hQ y e10 (TR_root _ _ _ _ _ _ _ e11).1 (TR_root _ _ _ _ _ _ _ e11).2, ih _ _ _ _ _ e11, hc _ _ _ _ _ e12, e13⟩
      · right; right; right; right; right; right; left
        obtain ⟨e1, e2, e3, e4, e5, e6, e7, e8, a1, L, l, y, W1, W2, f1, f2, f3, f4, f5, f6, f7, f8, f9, f10, f11, f12, f13⟩ := h
        exact ⟨e1, e2, e3, e4, e5, e6, e7, e8, a1, L, l, y, W1, W2, f1, f2, f3, f4, f5, f6, f7, f8, f9, hQ y f10 (TR_root _ _ _ _ _ _ _ f11).1 (TR_root _ _ _ _ _ _ _ f11).2, ih _ _ _ _ _ f11, hc _ _ _ _ _ f12, f13⟩
      · right; right; right; right; right; right; right; left
        obtain ⟨e1, e2, e7, e8, a1, L, l, y, W1, W2, f1, f2, f3, f4, f5, f6, f7, f8, f9, f10, f11, f12, f13⟩ := h
        exact ⟨e1, e2, e7, e8, a1, L, l, y, W1, W2, f1, f2, f3, f4, f5, f6, f7, f8, f9, hQ y f10 (TR_root _ _ _ _ _ _ _ f11).1 (TR_root _ _ _ _ _ _ _ f11).2, ih _ _ _ _ _ f11, hc _ _ _ _ _ f12, f13⟩
      · right; right; right; right; right; right; right; right; left
        obtain ⟨e1, e2, e3, e4, e5, e6, e7, e8, e9⟩ := h
        refine ⟨e1, e2, e3, e4, e5, e6, e7, e8, ?_⟩
        rcases e9 with e9 | e9 | ⟨f1, f2, a1, W1, f3, f4, f5⟩
        · left; exact e9
        · right; left; exact e9
        · right; right; exact ⟨f1, f2, a1, W1, f3, hc _ _ _ _ _ f4, f5⟩
      · right; right; right; right; right; right; right; right; right; left
        obtain ⟨e1, e2, o, v, a1, a2, W1, f1, f2, f3, f4, f5, f6, f7, f8⟩ := h
        exact ⟨e1, e2, o, v, a1, a2, W1, f1, f2, f3, f4, f5, f6, hc _ _ _ _ _ f7, f8⟩
      · right; right; right; right; right; right; right; right; right; right; left
        obtain ⟨e1, e2, a1, a2, a3, W1, f1, f2, f3, f4, f5⟩ := h
        exact ⟨e1, e2, a1, a2, a3, W1, f1, f2, f3, hc _ _ _ _ _ f4, f5⟩
      · right; right; right; right; right; right; right; right; right; right; right; left
        obtain ⟨e1, e2, e3, e4, o, v, a1, a2, y, W1, W2, f1, f2, f3, f4, f5, f6, f7, f8, f9, f10, f11, f12⟩ := h
        exact ⟨e1, e2, e3, e4, o, v, a1, a2, y, W1, W2, f1, f2, f3, f4, f5, f6, f7, f8, hQ y f9 (TR_root _ _ _ _ _ _ _ f10).1 (TR_root _ _ _ _ _ _ _ f10).2, ih _ _ _ _ _ f10, hc _ _ _ _ _ f11, f12⟩
      · right; right; right; right; right; right; right; right; right; right; right; right; left
        obtain ⟨e1, e2, L, l, W1, f1, f2, f3, f4, f5, f6⟩ := h
        exact ⟨e1, e2, L, l, W1, f1, f2, f3, f4, hc _ _ _ _ _ f5, f6⟩
      · right; right; right; right; right; right; right; right; right; right; right; right; right
        obtain ⟨e1, e2, e3, e4, e5, e6, e7⟩ := h
        refine ⟨e1, e2, e3, e4, e5, e6, ?_⟩
        rcases e7 with e7 | ⟨a1, W1, f1, f2, f3⟩
        · left; exact e7
        · right; exact ⟨a1, W1, f1, hc _ _ _ _ _ f2, f3⟩
theorem RBt_mono {Ou : Nat → Prop} {E E' : Nat} (h : KC r c c') (ht : KT s s') (hlen : (cLs c (r + 8)).length = cnt s 35) (hv : ∀ v, v < cnt s 50 → ca s 51 v < cnt s 35) (hU : cnt s' 35 = cnt s 35) (hE : E' + 60 * cnt s 62 ≤ E + 60 * cnt s' 62)
    (h1 : ∀ k, k < cnt s 35 → ¬ Ou k → cR c' 1611 (lid c (r + 8) k) = cR c 1611 (lid c (r + 8) k)) (h2 : ∀ k, k < cnt s 35 → ¬ Ou k → tA s' 41 k = tA s 41 k) (h3 : ∀ y, y < cnt s 65 → ¬ Ou (ca s 67 y) → ∀ z, z ∈ [66, 67, 68, 69, 70, 71, 72] → tA s' z y = tA s z y) (hC : RBt r Ou E c s) : RBt r Ou E' c' s' := by
  obtain ⟨Wt, q1, q2⟩ := hC
  refine ⟨Wt, by rw [hU]; omega, ?_⟩
  rw [hU]
  intro k hk ho
  obtain ⟨g, a, x, e1, e2, e3, e9⟩ := q2 k hk ho
  obtain ⟨k1, k2, _⟩ := ht.2.1 k hk
  rw [h.2.2.2.2.2.2.2.2 k (by rw [hlen]; exact hk), h1 k hk ho, h2 k hk ho]
  refine ⟨g, a, x, e1, e2, ?_, fun q => by rw [k1] at q; rw [k2 (e9 q)]; exact e9 q⟩
  have hr := TR_root _ _ _ _ _ _ _ e3
  have e4 := TR_QQ (Q' := fun y => y < cnt s 65 ∧ ca s 67 y = k) (fun y _ q1 q2 => ⟨q1, q2⟩) _ _ _ _ _ _ e3
  have e5 := TR_mono h ht hlen hv (Q := fun y => y < cnt s 65 ∧ ca s 67 y = k) (fun y q z hz => h3 y q.1 (by rw [q.2]; exact ho) z hz) hk g _ _ _ _ _ (fun z hz => h3 x hr.1 (by rw [hr.2]; exact ho) z (by simp only [List.mem_cons, List.not_mem_nil, or_false] at hz ⊢; omega)) e4
  exact TR_Q (fun _ _ => trivial) _ _ _ _ _ _ _ e5
theorem RFt_fr {Op : Nat → Prop} (h : CH XI XL XR XC c c') (ht : TH YI YL YA YB s s') (hS : RSt r c) (hU : RUt r c s) (hd : (dj [1612, 1613, 1615, 1616] XI && dj [3002] XL && dj [3000, 3003] XR && dj [5891, 5903, 6614, 6617] XC && dj [35, 60, 65] YI && dj [36, 40, 66, 67, 68, 69] YA && dj [61] YB) = true) (hC : RFt r Op c s) : RFt r Op c' s' := by
  simp only [Bool.and_eq_true] at hd
  obtain ⟨⟨⟨⟨⟨⟨d1, d2⟩, d3⟩, d4⟩, d5⟩, d6⟩, d7⟩ := hd
  have nA : ∀ x, x ∈ [36, 40, 66, 67, 68, 69] → x ∉ YA := fun x hx => dj_not d6 hx
  have c36 : ∀ j, tA s' 36 j = tA s 36 j := th_A ht (nA 36 (by simp))
  have c40 : ∀ j, tA s' 40 j = tA s 40 j := th_A ht (nA 40 (by simp))
  have k40 : ∀ j, ca s' 40 j = ca s 40 j := th_ca ht (nA 40 (by simp))
  have k66 : ∀ j, ca s' 66 j = ca s 66 j := th_ca ht (nA 66 (by simp))
  have k67 : ∀ j, ca s' 67 j = ca s 67 j := th_ca ht (nA 67 (by simp))
  have k68 : ∀ j, ca s' 68 j = ca s 68 j := th_ca ht (nA 68 (by simp))
  have t68 : ∀ j, tA s' 68 j = tA s 68 j := th_A ht (nA 68 (by simp))
  have t69 : ∀ j, tA s' 69 j = tA s 69 j := th_A ht (nA 69 (by simp))
  have a66 : ∀ j b, aok s' 66 j b = aok s 66 j b := fun j b => th_aok ht (nA 66 (by simp))
  have a67 : ∀ j b, aok s' 67 j b = aok s 67 j b := fun j b => th_aok ht (nA 67 (by simp))
  have a68 : ∀ j b, aok s' 68 j b = aok s 68 j b := fun j b => th_aok ht (nA 68 (by simp))
  have b61 : ∀ j, tB s' 61 j = tB s 61 j := th_B ht (dj_not d7 (by simp))
  have n35 := th_cnt ht (dj_not d5 (x := 35) (by simp))
  have n60 := th_cnt ht (dj_not d5 (x := 60) (by simp))
  have n65 := th_cnt ht (dj_not d5 (x := 65) (by simp))
  have el : ∀ k, lid c' (r + 8) k = lid c (r + 8) k := ch_lid h (RSt_uL hS) (by decide) (dj_not d4 (by simp))
  obtain ⟨q1, q2⟩ := hC
  unfold RFt
  simp only [c36, c40, k40, k66, k67, k68, t68, t69, a66, a67, a68, b61, n35, n60, n65, el]
  refine ⟨q1, fun k hk => ?_⟩
  obtain ⟨g1, g2, g3, g4⟩ := RUt_cap hU hk
  obtain ⟨e1, e2, e3, e4, e5, e6, e7, e8, e9, ⟨K, e10, ⟨X, hX, e11⟩, e12⟩, K2, e13, ⟨X2, hX2, e14⟩, e15⟩ := q2 k hk
  have nI : ∀ x, x ∈ [1612, 1613, 1615, 1616] → cI c' x (lid c (r + 8) k) = cI c x (lid c (r + 8) k) := fun x hx => ch_I h g4 (by decide) (dj_not d1 hx)
  rw [nI 1612 (by simp), nI 1613 (by simp), nI 1615 (by simp), nI 1616 (by simp)]
  have es : ∀ i, lid c' (lid c (r + 8) k + 3) i = lid c (lid c (r + 8) k + 3) i := ch_lid h g2 (by decide) (dj_not d4 (by simp))
  have ei : ∀ i, lid c' (lid c (r + 8) k + 5) i = lid c (lid c (r + 8) k + 5) i := ch_lid h g3 (by decide) (dj_not d4 (by simp))
  refine ⟨?_, e2, e3, e4, e5, e6, e7, e8, e9, ⟨K, lsr_fr h g2 (by decide) (dj_not d4 (by simp)) (by decide) e10, ⟨X, hX, fun i hi => ?_⟩, fun x w1 w2 w3 w4 => ?_⟩, K2, lsr_fr h g3 (by decide) (dj_not d4 (by simp)) (by decide) e13, ⟨X2, hX2, fun i hi => ?_⟩, fun x w1 w2 w3 w4 => ?_⟩
  · intro y hy
    rw [nI y (by simp only [List.mem_cons, List.not_mem_nil, or_false] at hy ⊢; omega)]
    exact e1 y hy
  · obtain ⟨x1, x2, x3, x4, x5, x6, ⟨o, xo⟩, L, x7, x8, x9⟩ := e11 i hi
    have hc := (e10.2 i hi).2
    have hlv := live_30 hc xo
    rw [es, h.2.2.2.1 3002 _ (dj_not d2 (by simp)) hlv, h.2.2.2.2.1 3003 _ (dj_not d3 (by simp)) hlv, h.2.2.2.2.1 3000 _ (dj_not d3 (by simp)) hlv]
    exact ⟨x1, x2, x3, x4, x5, x6, ⟨o, xo⟩, L, x7, ch_cl h x8 (by decide), by rw [ch_Ls h x8 (by decide) (dj_not d4 (by simp))]; exact x9⟩
  · obtain ⟨i, hi, x5, x6, ⟨o, xo⟩, L, x7, x8, x9⟩ := e12 x w1 w2 w3 w4
    have hc := (e10.2 i hi).2
    have hlv := live_30 hc xo
    refine ⟨i, hi, ?_⟩
    rw [es, h.2.2.2.1 3002 _ (dj_not d2 (by simp)) hlv, h.2.2.2.2.1 3003 _ (dj_not d3 (by simp)) hlv, h.2.2.2.2.1 3000 _ (dj_not d3 (by simp)) hlv]
    exact ⟨x5, x6, ⟨o, xo⟩, L, x7, ch_cl h x8 (by decide), by rw [ch_Ls h x8 (by decide) (dj_not d4 (by simp))]; exact x9⟩
  · rw [ei]; exact e14 i hi
  · obtain ⟨x5, x6, x7, x8, x9⟩ := e15 x w1 w2 w3 w4
    refine ⟨x5, x6, x7, x8, fun q => ?_⟩
    obtain ⟨i, i1, i2⟩ := x9 q
    exact ⟨i, i1, by rw [ei]; exact i2⟩
end
