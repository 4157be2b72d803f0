set_option maxRecDepth 100000
set_option maxHeartbeats 2000000
/-! D26: links of nodes; a node is closed; one deeper -/
section
variable {χ : Nat → Int32} {n t r p f : Nat} {vo : Nat → Nat} {Op Oa Ou : Nat → Prop} {E O : Nat} {c c' : cS} {s s' : tS}
/-- nodes behind each other from p on -/
def lnk (s : tS) : List Nat → Int32 → Prop
  | [], p => p = -1
  | y :: l, p => p = Int32.ofNat y ∧ y < 900 ∧ lnk s l (tA s 71 y)
def gtT (s : tS) (x y : Nat) (ys : List Nat) : tS := match ys.getLast? with
  | none => tsA (tsA s 72 y (Int32.ofNat x)) 70 x (Int32.ofNat y)
  | some l => tsA (tsA s 72 y (Int32.ofNat x)) 71 l (Int32.ofNat y)
theorem lnk_eq {s s' : tS} (h : ∀ y, tA s' 71 y = tA s 71 y) : ∀ ys p, lnk s ys p → lnk s' ys p := by
  intro ys
  induction ys with
  | nil => intro p h; exact h
  | cons y l ih => intro p ⟨h1, h2, h3⟩; exact ⟨h1, h2, by rw [h]; exact ih _ h3⟩
theorem ofNat_ne_m1 {k : Nat} (hk : k < 2147483648) : (Int32.ofNat k = -1) = False := by rw [z_m1, z_nm hk]
theorem t_gets23 (d y : Nat) (hy : y < 900) (s : tS) : ∀ (l : List Nat) (z : Nat), z < 900 → lnk s l (tA s 71 z) → fX7_gets_23 (cT d) (Int32.ofNat y) (Int32.ofNat z) s = some (.inl none, tsA s 71 ((z :: l).getLast (by simp)) (Int32.ofNat y)) := by
  intro l
  induction l with
  | nil =>
    intro z hz hl
    have hl' : tA s 71 z = -1 := hl
    rw [uX7_gets_23, q_71 hz, hl', if_pos rfl, qs_71 hz]
    rfl
  | cons a l ih =>
    intro z hz hl
    obtain ⟨h1, h2, h3⟩ := hl
    rw [uX7_gets_23, q_71 hz, h1]
    simp only [ofNat_ne_m1 (show a < 2147483648 by omega), if_false]
    rw [q_71 hz, h1, ih a h2 h3]
    rfl
theorem t_gets (d : Nat) {x y : Nat} {ys : List Nat} (hfi : tI s 6 = 0) (hx : x < 900) (hy : y < 900) (hl : lnk s ys (tA s 70 x)) : cT (d + 2) 49 [eR (.ref 0), eI (Int32.ofNat x), eI (Int32.ofNat y)] s = some (.inl none, gtT s x y ys) := by
  rw [kX7_gets, uX7_gets, t_fine]
  simp only [hfi, decide_true, bi_t, e10, rT, bB, eq_self, if_true, if_false, true_and, and_true, false_and, and_false, or_true, true_or, or_false, false_or, reduceIte, Nat.reduceEqDiff, not_true_eq_false, not_false_eq_true]
  rw [qs_72 hy, q_70 hx]
  have e70 : tA (tsA s 72 y (Int32.ofNat x)) 70 x = tA s 70 x := by rw [t_A_A, if_neg (by simp)]
  have e71 : ∀ j, tA (tsA s 72 y (Int32.ofNat x)) 71 j = tA s 71 j := fun j => by rw [t_A_A, if_neg (by simp)]
  rw [e70]
  cases ys with
  | nil =>
    have hl' : tA s 70 x = -1 := hl
    rw [hl', if_pos rfl, qs_70 hx]
    rfl
  | cons a l =>
    obtain ⟨h1, h2, h3⟩ := hl
    rw [h1]
    simp only [ofNat_ne_m1 (show a < 2147483648 by omega), if_false]
    rw [t_gets23 (d + 1) y hy _ l a h2 (lnk_eq e71 l _ (by rw [e71]; exact h3))]
    unfold gtT
    rw [List.getLast?_eq_some_getLast (by simp)]
theorem gt_th (s : tS) (x y : Nat) (ys : List Nat) : TH [] [] [70, 71, 72] [] s (gtT s x y ys) := by
  unfold gtT
  split
  · exact TH_A (by simp) (TH_A (by simp) (TH_refl _ _ _ _ s))
  · exact TH_A (by simp) (TH_A (by simp) (TH_refl _ _ _ _ s))
/-- links within the units that are open -/
theorem P_links (h : RP χ n t r p f vo Op Oa Ou E O c s) (ht : TH [] [] [70, 71, 72] [] s s') (hl : ∀ y, y < cnt s 65 → ¬ Ou (ca s 67 y) → ∀ z, z ∈ [70, 71, 72] → tA s' z y = tA s z y) : RP χ n t r p f vo Op Oa Ou E O c s' := by
  obtain ⟨hL, hfi, hn, hQ, hN, hOu, hOp, hOa, hOu2⟩ := h
  obtain ⟨hS, hC, hG, hLm, hM, hU, hV, hI, hF, hA, hB⟩ := hQ
  have hch := CH_refl [] [] [] [] c
  refine ⟨LX_ch hch ht rfl rfl (by decide) hL, by rw [th_I ht (by simp)]; exact hfi, hn, ⟨hS, RCt_fr hch ht hS (by decide) hC, RGt_fr hch ht hS (by decide) hG, RLt_fr hch ht hS (by decide) hLm, RMt_fr hch ht hS (by decide) (by decide) hM, RUt_fr hch ht hS (by decide) (by decide) hU, RVt_fr hch ht hS hU (by decide) hV, RIt_fr hch ht hS hV (by decide) hI, RFt_fr hch ht hS hU (by decide) hF, RAt_fr hch ht hS (by decide) hA, ?_⟩, RNt_fr ht (by decide) hN, ?_, ?_, ?_, ?_⟩
  · refine RBt_mono (KC_refl r c) (KT_of ht (by decide)) hU.2.1.1 (fun v hv => (hV.2.1 v hv).2.2.1) (th_cnt ht (by simp)) (by rw [th_cnt ht (by simp)]; exact Nat.le_refl _) (fun _ _ _ => rfl) (fun k _ _ => th_A ht (by decide) k) (fun y hy ho z hz => ?_) hB
    by_cases q : z ∈ [70, 71, 72]
    · exact hl y hy ho z q
    · exact th_A ht q y
  · rw [th_cnt ht (by simp)]; exact hOu
  · intro y hy; rw [th_ca ht (by decide), th_cnt ht (by simp)]; exact hOp y hy
  · intro k hk; rw [th_cnt ht (by simp)]; exact hOa k hk
  · intro k hk; rw [th_cnt ht (by simp)]; exact hOu2 k hk
/-- a node that tells nothing of its unit is closed -/
theorem P_close0 {N : Nat} (h : RP χ n t r p f vo (fun y => Op y ∨ y = N) Oa Ou E O c s) (hk : ca s 66 N ≠ 7 ∧ ca s 66 N ≠ 8 ∧ ca s 66 N ≠ 10 ∧ ca s 66 N ≠ 23 ∧ ca s 66 N ≠ 25 ∧ ca s 66 N ≠ 26 ∧ ca s 66 N ≠ 27) : RP χ n t r p f vo Op Oa Ou E O c s := by
  obtain ⟨hL, hfi, hn, hQ, hN, hOu, hOp, hOa, hOu2⟩ := h
  obtain ⟨hS, hC, hG, hLm, hM, hU, hV, hI, ⟨f1, f2⟩, hA, hB⟩ := hQ
  obtain ⟨k1, k2, k3, k4, k5, k6, k7⟩ := hk
  have cl : ∀ x j, ca s 66 x = j → (j = 7 ∨ j = 8 ∨ j = 10 ∨ j = 23 ∨ j = 25 ∨ j = 26 ∨ j = 27) → ¬ Op x → ¬ (Op x ∨ x = N) := by
    intro x j e q ho z
    rcases z with z | z
    · exact ho z
    · rw [z] at e; omega
  refine ⟨hL, hfi, hn, ⟨hS, hC, hG, hLm, hM, hU, hV, hI, ⟨f1, fun u hu => ?_⟩, hA, hB⟩, hN, hOu, fun y hy => hOp y (Or.inl hy), hOa, hOu2⟩
  obtain ⟨e1, e2, e3, e4, e5, e6, e7, ⟨b0, b1, b2, b3, e8, e8'⟩, e9, ⟨K, e10, ⟨X, hX, e11⟩, e12⟩, K2, e13, ⟨X2, hX2, e14⟩, e15⟩ := f2 u hu
  refine ⟨e1, e2, fun x hx ho q z => e3 x hx (cl x _ rfl (by omega) ho) q z, e4, fun x hx ho q z => e5 x hx (cl x _ z (by omega) ho) q z, e6, fun x hx ho q z => e7 x hx (cl x _ z (by omega) ho) q z, ⟨b0, b1, b2, b3, e8, fun m hm => ⟨fun q => by obtain ⟨x, x1, x2, x3⟩ := (e8' m hm).1 q; exact ⟨x, x1, fun w => x2 (Or.inl w), x3⟩, fun x hx ho q z => (e8' m hm).2 x hx (cl x _ z (by omega) ho) q z⟩⟩, fun x hx ho z => e9 x hx (cl x _ z (by omega) ho) z, ⟨K, e10, ⟨X, hX, fun i hi => ?_⟩, fun x hx ho q z => e12 x hx (cl x _ z (by omega) ho) q z⟩, K2, e13, ⟨X2, hX2, e14⟩, fun x hx ho q z => e15 x hx (cl x _ z (by omega) ho) q z⟩
  obtain ⟨x1, x2, x3⟩ := e11 i hi
  exact ⟨x1, fun q => x2 (Or.inl q), x3⟩
/-- one deeper -/
def dpC (c : cS) (r : Nat) : cS := csI c 806 r (cI c 806 r + 1)
def dpT (s : tS) : tS := tsI s 63 (tI s 63 + 1)
def upC (c : cS) (r : Nat) : cS := csI c 806 r (cI c 806 r - 1)
def upT (s : tS) : tS := tsI s 63 (tI s 63 - 1)
theorem P_es (h : RP χ n t r p f vo Op Oa Ou E O c s) {m : Nat} (hm : m ≤ 24) (hO : O ≤ 4 * m) : RP χ n t r p f vo Op Oa Ou E O (csI c 806 r (Int32.ofNat m)) (tsI s 63 (Int32.ofNat m)) ∧ ST n r f c s f (csI c 806 r (Int32.ofNat m)) (tsI s 63 (Int32.ofNat m)) ∧ cnt (tsI s 63 (Int32.ofNat m)) 63 = m := by
  obtain ⟨hL, hfi, hn, hQ, hN, hOu, hOp, hOa, hOu2⟩ := h
  obtain ⟨hS, ⟨q1, q2, q3, q4, q5⟩, hG, hLm, hM, hU, hV, hI, hF, hA, hB⟩ := hQ
  have hch : CH [806] [] [] [] c (csI c 806 r (Int32.ofNat m)) := CH_I (Or.inl (by simp)) (CH_refl _ _ _ _ c)
  have hth : TH [63] [] [] [] s (tsI s 63 (Int32.ofNat m)) := TH_I (by simp) (TH_refl _ _ _ _ s)
  have e63 : tI (tsI s 63 (Int32.ofNat m)) 63 = Int32.ofNat m := by rw [t_I_I, if_pos rfl]
  have hcn := cnt_of e63 (by omega)
  have hKC : KC r c (csI c 806 r (Int32.ofNat m)) := KC_of hch hS (Nat.le_refl _) (by decide)
  have hKT : KT s (tsI s 63 (Int32.ofNat m)) := KT_of hth (by decide)
  obtain ⟨Lt, w1, w2, w3, w4⟩ := hN
  refine ⟨⟨LX_ch hch hth rfl rfl (by decide) hL, by rw [th_I hth (by decide)]; exact hfi, CLN_I (by rw [hS.1]) hn, ⟨RSt_fr hch (by decide) hS, ⟨q1, ⟨cok_of e63 (by omega) hm, by rw [g_I_I, if_pos ⟨rfl, rfl⟩, e63]⟩, q3, q4, q5⟩, RGt_fr hch hth hS (by decide) hG, RLt_fr hch hth hS (by decide) hLm, RMt_fr hch hth hS (by decide) (by decide) hM, RUt_fr hch hth hS (by decide) (by decide) hU, RVt_fr hch hth hS hU (by decide) hV, RIt_fr hch hth hS hV (by decide) hI, RFt_fr hch hth hS hU (by decide) hF, RAt_fr hch hth hS (by decide) hA, ?_⟩, ⟨Lt, w1, w2, w3, by rw [hcn]; exact hO⟩, hOu, hOp, hOa, hOu2⟩, ⟨hKC, hKT, fun _ _ _ _ => rfl, Nat.le_refl _, Nat.le_refl _, Nat.le_refl _, fun _ q => q⟩, hcn⟩
  exact RBt_mono hKC hKT hU.2.1.1 (fun v hv => (hV.2.1 v hv).2.2.1) rfl (Nat.le_refl _) (fun _ _ _ => rfl) (fun _ _ _ => rfl) (fun _ _ _ _ _ => rfl) hB
end
