set_option maxRecDepth 100000
set_option maxHeartbeats 4000000
/-! D76: a read, a write, a send -/
theorem injK_le : ∀ (M K : Nat) (X : Nat → Nat), injK X K → (∀ i, i < K → X i < M) → K ≤ M
  | 0, K, X, _, h => by
    cases K with
    | zero => exact Nat.le_refl _
    | succ k => exact absurd (h 0 (Nat.succ_pos _)) (Nat.not_lt_zero _)
  | M + 1, K, X, hX, h => by
    by_cases q : ∃ i, i < K ∧ X i = M
    · obtain ⟨i0, h0, h1⟩ := q
      have := injK_le M (K - 1) (fun i => if i < i0 then X i else X (i + 1)) (fun i j hi hj w => by
        by_cases a : i < i0 <;> by_cases b : j < i0
        · simp only [a, b, if_true] at w; exact hX i j (by omega) (by omega) w
        · simp only [a, b, if_true, if_false] at w; have := hX i (j + 1) (by omega) (by omega) w; omega
        · simp only [a, b, if_true, if_false] at w; have := hX (i + 1) j (by omega) (by omega) w; omega
        · simp only [a, b, if_false] at w; have := hX (i + 1) (j + 1) (by omega) (by omega) w; omega) (fun i hi => by
        have key : ∀ j, j < K → j ≠ i0 → X j < M := fun j hj hne => by
          have := h j hj
          have : X j ≠ M := fun w => hne (hX j i0 hj h0 (w.trans h1.symm))
          omega
        show (if i < i0 then X i else X (i + 1)) < M
        by_cases a : i < i0
        · rw [if_pos a]; exact key i (by omega) (by omega)
        · rw [if_neg a]; exact key (i + 1) (by omega) (by omega))
      omega
    · have := injK_le M K X hX (fun i hi => by
        have := h i hi
        have : X i ≠ M := fun w => q ⟨i, hi, w⟩
        omega)
      omega
theorem lid_eq {c c' : cS} {L L' i j : Nat} (h : nthD .null (cLs c' L') j = nthD .null (cLs c L) i) : lid c' L' j = lid c L i := by unfold lid; rw [h]
theorem lid_ls {c c' : cS} {L : Nat} (h : cLs c' L = cLs c L) (i : Nat) : lid c' L i = lid c L i := by unfold lid; rw [h]
theorem lid_at {c : cS} {L k o : Nat} (h : nthD .null (cLs c L) k = .ref o) : lid c L k = o := by unfold lid; rw [h]; rfl
section
variable {χ : Nat → Int32} {n t r p f : Nat} {vo : Nat → Nat} {Op Oa Ou : Nat → Prop} {E O : Nat} {c c' : cS} {s : tS}
/-- a part of class 31 is set up -/
def wrC (c : cS) (o a : Nat) (k : Int32) (v : Value) : cS := csR (csI (csR c 3100 o (.ref a)) 3102 o k) 3101 o v
theorem c_wr (d : Nat) {o a : Nat} {k : Int32} {v : Value} (ho : cCl c o = 31) (hv : misR v = true) : cC (d + 11) 3100 [eR (.ref o), eR (.ref a), eI k, eR v] c = some (.inl none, wrC c o a k v) := by
  rw [kX31_init, r_cck, if_pos ho, uX31_init, kX18_init, uX18_init]
  simp only [pP, ho, hv, show misR (.ref a) = true from rfl, rC, bB, Nat.reduceDiv, Nat.reduceLeDiff, Nat.reduceLT,  eq_self, if_true, if_false, true_and, and_true, false_and, and_false, or_true, true_or, or_false, false_or, reduceIte, reduceCtorEq, Nat.reduceEqDiff, not_true_eq_false, not_false_eq_true, r_misN, r_misR, gC]
  rfl
/-- a send is closed: it is in its unit's list -/
theorem P_close7 {N u o L a1 : Nat} (h : RP χ n t r p f vo (fun y => Op y ∨ y = N) Oa Ou E O c s) (hNo : ¬ Op N) (hk : ca s 66 N = 7) (h67 : ca s 67 N = u) (hLA : LA c (lid c (r + 8) u + 3) (cLs c (lid c (r + 8) u + 3) ++ [.ref o]) c') (hn' : CLN c') (ho : cCl c o = 30) (h68 : ca s 68 N < cnt s 60) (hnm : nm (cL c 3002 o) (tB s 61 (ca s 68 N))) (h0 : cR c 3000 o = .ref a1) (hL0 : cR c 3003 o = .ref L) (hL : cCl c L = 5891) (h69 : tA s 69 N = Int32.ofNat (cLs c L).length) :
    RP χ n t r p f vo Op Oa Ou E O c' s ∧ KC r c c' ∧ (∀ b, raw c b → raw c' b) := by
  have h0' := h
  obtain ⟨hLx, hfi, hn, hQ, hN, hOu, hOp, hOa, hOu2⟩ := h
  obtain ⟨hS, hC, hG, hLm, hM, hU, hV, hI, ⟨f1, f2⟩, hA, hB⟩ := hQ
  have hNx := (hOp N (Or.inr rfl)).2
  have hu : u < cnt s 35 := by rw [← h67]; exact (f1 N hNx).2.1
  have hcap := RUt_cap hU hu
  have clo : ∀ x j, ca s 66 x = j → j ≠ 7 → ¬ Op x → ¬ (Op x ∨ x = N) := by
    intro x j e q ho z
    rcases z with z | z
    · exact ho z
    · rw [z] at e; omega
  have hch : CH [] [] [] [6614] c c' := LA_ch hLA hcap.2.1
  have hth := TH_refl [] [] [] [] s
  obtain ⟨⟨x1, x2, x3, x4⟩, ⟨i1, i2, i3, i4, i5, i6, i7⟩, i8, i9⟩ := id hLA
  have hKC : KC r c c' := KC_of hch hS x3 (by decide)
  have hlid : ∀ k, lid c' (r + 8) k = lid c (r + 8) k := ch_lid hch (RSt_uL hS) (by decide) (by decide)
  have old : ∀ L' k', cCl c L' = k' → k' ≠ 6614 → cLs c' L' = cLs c L' := fun L' k' e hk' => i9 L' (by rintro rfl; rw [hcap.2.1] at e; exact hk' e.symm)
  refine ⟨⟨LX_ch hch hth (congrFun i4 t) (congrFun i5 (r + 19)) (by decide) hLx, hfi, hn', ⟨RSt_fr hch (by decide) hS, RCt_fr hch hth hS (by decide) hC, RGt_fr hch hth hS (by decide) hG, RLt_fr hch hth hS (by decide) hLm, RMt_fr hch hth hS (by decide) (by decide) hM, RUt_fr hch hth hS (by decide) (by decide) hU, RVt_fr hch hth hS hU (by decide) hV, RIt_fr hch hth hS hV (by decide) hI, ⟨f1, fun k hk' => ?_⟩, RAt_fr hch hth hS (by decide) hA, ?_⟩, hN, hOu, fun y hy => hOp y (Or.inl hy), hOa, hOu2⟩, hKC, LA_raw hLA hcap.2.1 (by decide)⟩
  · obtain ⟨e1, e2, e3, e4, e5, e6, e7, ⟨a0, a1', a2, a3, e8, e8'⟩, e9, ⟨K, e10, ⟨X, hX, e11⟩, e12⟩, K2, e13, ⟨X2, hX2, e14⟩, e15⟩ := f2 k hk'
    have hkap := RUt_cap hU hk'
    rw [hlid k, i1, i2, i3]
    have hl5 : cLs c' (lid c (r + 8) k + 5) = cLs c (lid c (r + 8) k + 5) := old _ _ hkap.2.2.1 (by decide)
    have hld5 : ∀ i, lid c' (lid c (r + 8) k + 5) i = lid c (lid c (r + 8) k + 5) i := fun i => lid_ls hl5 i
    have key : ∀ o' x, (ca s 68 x < cnt s 60 ∧ nm (cL c 3002 o') (tB s 61 (ca s 68 x)) ∧ (∃ o, cR c 3000 o' = .ref o) ∧ ∃ L, cR c 3003 o' = .ref L ∧ cCl c L = 5891 ∧ tA s 69 x = Int32.ofNat (cLs c L).length) → (ca s 68 x < cnt s 60 ∧ nm (cL c 3002 o') (tB s 61 (ca s 68 x)) ∧ (∃ o, cR c 3000 o' = .ref o) ∧ ∃ L, cR c 3003 o' = .ref L ∧ cCl c' L = 5891 ∧ tA s 69 x = Int32.ofNat (cLs c' L).length) := fun o' x ⟨k1, k2, k3, L', k4, k5, k6⟩ => ⟨k1, k2, k3, L', k4, by rw [i6]; exact k5, by rw [old L' _ k5 (by decide)]; exact k6⟩
    refine ⟨e1, e2, fun x hx ho q z => e3 x hx (clo x _ rfl (by omega) ho) q z, e4, fun x hx ho q z => e5 x hx (clo x _ z (by omega) ho) q z, e6, fun x hx ho q z => e7 x hx (clo x _ z (by omega) ho) q z, ⟨a0, a1', a2, a3, e8, fun m hm => ⟨fun q => by obtain ⟨x, y1, y2, y3⟩ := (e8' m hm).1 q; exact ⟨x, y1, fun w => y2 (Or.inl w), y3⟩, fun x hx ho q z => (e8' m hm).2 x hx (clo x _ z (by omega) ho) q z⟩⟩, fun x hx ho z => e9 x hx (clo x _ z (by omega) ho) z, ?_, K2, ?_, ⟨X2, hX2, fun i hi => ?_⟩, fun x hx ho q z => ?_⟩
    · by_cases hku : k = u
      · rw [hku] at e10 e11 e12 ⊢
        have hlen : (cLs c (lid c (r + 8) u + 3)).length = K := e10.1
        have lo : ∀ i, i < K → lid c' (lid c (r + 8) u + 3) i = lid c (lid c (r + 8) u + 3) i := fun i hi => lid_eq (by rw [i8]; exact lst_lt _ _ _ (by omega))
        have lN : nthD .null (cLs c' (lid c (r + 8) u + 3)) K = .ref o := by rw [i8, ← hlen]; exact lst_end _ _
        have lN' : lid c' (lid c (r + 8) u + 3) K = o := lid_at lN
        have kN := key o N ⟨h68, hnm, ⟨a1, h0⟩, L, hL0, hL, h69⟩
        refine ⟨K + 1, ⟨by rw [i8, List.length_append]; show _ + 1 = _; omega, fun i hi => ?_⟩, ⟨fun i => if i = K then N else X i, fun i j hi hj w => ?_, fun i hi => ?_⟩, fun x hx ho' q z => ?_⟩
        · by_cases hiK : i = K
          · rw [hiK, lN', lN, i6]; exact ⟨rfl, ho⟩
          · have := e10.2 i (by omega)
            rw [lo i (by omega), i6, i8, lst_lt _ _ _ (by omega)]
            exact this
        · have w : (if i = K then N else X i) = (if j = K then N else X j) := w
          have hno : ∀ i, i < K → X i ≠ N := fun i hi q => (e11 i hi).2.1 (Or.inr q)
          by_cases hiK : i = K
          · by_cases hjK : j = K
            · rw [hiK, hjK]
            · rw [if_pos hiK, if_neg hjK] at w
              exact absurd w.symm (hno j (by omega))
          · by_cases hjK : j = K
            · rw [if_neg hiK, if_pos hjK] at w
              exact absurd w (hno i (by omega))
            · rw [if_neg hiK, if_neg hjK] at w
              exact hX i j (by omega) (by omega) w
        · by_cases hiK : i = K
          · simp only [hiK, if_true]
            rw [lN']
            exact ⟨hNx, hNo, h67, hk, kN⟩
          · simp only [hiK, if_false]
            rw [lo i (by omega)]
            obtain ⟨y1, y2, y3, y4, y5⟩ := e11 i (by omega)
            exact ⟨y1, fun w => y2 (Or.inl w), y3, y4, key _ _ y5⟩
        · by_cases hxN : x = N
          · refine ⟨K, by omega, ?_⟩
            rw [lN', hxN]
            exact kN
          · obtain ⟨i, hi, y5⟩ := e12 x hx (fun z' => by rcases z' with z' | z'; exact ho' z'; exact hxN z') q z
            refine ⟨i, by omega, ?_⟩
            rw [lo i hi]
            exact key _ _ y5
      · have hne : lid c (r + 8) k + 3 ≠ lid c (r + 8) u + 3 := fun q => hku (u_inj h0' hk' hu (by omega))
        have hl3 : cLs c' (lid c (r + 8) k + 3) = cLs c (lid c (r + 8) k + 3) := i9 _ hne
        have hld3 : ∀ i, lid c' (lid c (r + 8) k + 3) i = lid c (lid c (r + 8) k + 3) i := fun i => lid_ls hl3 i
        refine ⟨K, ⟨by rw [hl3]; exact e10.1, fun i hi => by rw [hld3, i6, hl3]; exact e10.2 i hi⟩, ⟨X, hX, fun i hi => ?_⟩, fun x hx ho' q z => ?_⟩
        · rw [hld3]
          obtain ⟨y1, y2, y3, y4, y5⟩ := e11 i hi
          exact ⟨y1, fun w => y2 (Or.inl w), y3, y4, key _ _ y5⟩
        · obtain ⟨i, hi, y5⟩ := e12 x hx (fun z' => by rcases z' with z' | z'; exact ho' z'; rw [z', h67] at q; exact hku q.symm) q z
          refine ⟨i, hi, ?_⟩
          rw [hld3]
          exact key _ _ y5
    · exact ⟨by rw [hl5]; exact e13.1, fun i hi => by rw [hld5, i6, hl5]; exact e13.2 i hi⟩
    · rw [hld5]
      obtain ⟨x, y1, y2, y3, y4, y5, y6, y7⟩ := e14 i hi
      exact ⟨x, y1, y2, y3, y4, y5, y6, y7.trans (hlid _).symm⟩
    · obtain ⟨y1, y2, y3, y4, y5⟩ := e15 x hx (clo x _ z (by omega) ho) q z
      refine ⟨y1, y2, y3, y4, fun w => ?_⟩
      obtain ⟨i, hi, y6⟩ := y5 w
      exact ⟨i, hi, by rw [hld5, hlid]; exact y6⟩
  · exact RBt_mono hKC (KT_of hth (by decide)) hU.2.1.1 (fun v hv => (hV.2.1 v hv).2.2.1) rfl (Nat.le_refl _) (fun k _ _ => by rw [i3]) (fun _ _ _ => rfl) (fun _ _ _ _ _ => rfl) hB
end
