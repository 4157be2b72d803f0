set_option maxRecDepth 100000
set_option maxHeartbeats 2000000
/-! D25: what nothing of the state reads; nodes -/
section
variable {XI XL XR XC YI YL YA YB : List Nat} {χ : Nat → Int32} {n t r p f : Nat} {vo : Nat → Nat} {Op Oa Ou : Nat → Prop} {E O : Nat} {c c' : cS} {s s' : tS}
theorem RNt_fr (ht : TH YI YL YA YB s s') (hd : (dj [35, 50, 63] YI && dj [46] YA) = true) (hN : RNt O f s) : RNt O f s' := by
  simp only [Bool.and_eq_true] at hd
  obtain ⟨Lt, h1, h2, h3, h4⟩ := hN
  refine ⟨Lt, ?_, ?_, h3, ?_⟩
  · rw [th_cnt ht (dj_not hd.1 (by simp))]
    intro k hk
    rw [th_ca ht (dj_not hd.2 (by simp))]
    exact h1 k hk
  · rw [th_cnt ht (dj_not hd.1 (by simp)), th_cnt ht (dj_not hd.1 (by simp))]; exact h2
  · rw [th_cnt ht (dj_not hd.1 (by simp))]; exact h4
/-- the state stays where nothing of it is written -/
theorem RP_fr (h : CH XI XL XR XC c c') (ht : TH YI YL YA YB s s') (hA : ∀ a, cCl c a ≠ 0 → cCl c a ≠ 6009 → cAI c' a = cAI c a ∧ cAL c' a = cAL c a) (hn : CLN c') (hsl : cSl c ≤ cSl c')
    (hd : (dj qI XI && dj qL XL && dj qR XR && dj qC XC && dj qYI YI && dj qYA YA && dj qYB YB) = true) (hd2 : (dj [1001, 1002, 1003, 1004, 1005, 1006, 1201] XI && dj [1007] XL && dj [1000, 1008, 1009, 1011, 1200] XR && dj [4, 8, 9, 10, 11, 14, 15, 16] YI && dj [12] YL && dj [3] YA && dj [13] YB) = true) (hy6 : 6 ∉ YI)
    (hP : RP χ n t r p f vo Op Oa Ou E O c s) : RP χ n t r p f vo Op Oa Ou E O c' s' := by
  obtain ⟨hL, hfi, _, hQ, hN, hOu, hOp, hOa, hOu2⟩ := hP
  have hd0 := hd
  simp only [Bool.and_eq_true] at hd
  obtain ⟨⟨⟨⟨⟨⟨d1, d2⟩, d3⟩, d4⟩, d5⟩, d6⟩, d7⟩ := hd
  have ht5 : cCl c t = 5100 := hL.1.1.2.2.2.1
  have hk5 : cCl c (r + 19) = 6011 := hL.1.2.2.1.2.1
  refine ⟨LX_ch h ht (hA t (by rw [ht5]; decide) (by rw [ht5]; decide)).1 (hA (r + 19) (by rw [hk5]; decide) (by rw [hk5]; decide)).2 hd2 hL, by rw [th_I ht hy6]; exact hfi, hn, RQ_fr h ht hsl hd0 hQ, RNt_fr ht (by simp only [Bool.and_eq_true]; exact ⟨dj_sub (by decide) d5, dj_sub (by decide) d6⟩) hN, ?_, ?_, ?_, ?_⟩
  · rw [th_cnt ht (dj_not d5 (by decide))]; exact hOu
  · intro y hy
    rw [th_ca ht (dj_not d6 (by decide)), th_cnt ht (dj_not d5 (by decide))]; exact hOp y hy
  · intro k hk; rw [th_cnt ht (dj_not d5 (by decide))]; exact hOa k hk
  · intro k hk; rw [th_cnt ht (dj_not d5 (by decide))]; exact hOu2 k hk
/-- a node more -/
def ndT (s : tS) (k a b : Int32) : tS := tsA (tsA (tsA (tsA (tsA (tsA (tsA (tsI s 65 (tI s 65 + 1)) 66 (cnt s 65) k) 67 (cnt s 65) (tI s 64)) 68 (cnt s 65) a) 69 (cnt s 65) b) 70 (cnt s 65) (-1)) 71 (cnt s 65) (-1)) 72 (cnt s 65) (-1)
theorem t_node (d : Nat) (k a b : Int32) (hN : tI s 65 = Int32.ofNat (cnt s 65)) (hb : cnt s 65 < 900) : cT (d + 1) 47 [eR (.ref 0), eI k, eI a, eI b] s = some (.inl (some (eI (Int32.ofNat (cnt s 65)))), ndT s k a b) := by
  rw [kX7_node, uX7_node]
  simp only [rT, bB, eq_self, if_true, if_false, true_and, and_true, false_and, and_false, or_true, true_or, or_false, false_or, reduceIte, Nat.reduceEqDiff, not_true_eq_false, not_false_eq_true]
  unfold ndT
  generalize cnt s 65 = m at hN hb ⊢
  rw [hN]
  rw [qs_66 hb, qs_67 hb, qs_68 hb, qs_69 hb, qs_70 hb, qs_71 hb, qs_72 hb]
  simp only [gT]
  rfl
theorem nd_th (s : tS) (k a b : Int32) : TH [65] [] [66, 67, 68, 69, 70, 71, 72] [] s (ndT s k a b) := TH_A (by simp) (TH_A (by simp) (TH_A (by simp) (TH_A (by simp) (TH_A (by simp) (TH_A (by simp) (TH_A (by simp) (TH_I (by simp) (TH_refl _ _ _ _ s))))))))
theorem nd_old (s : tS) (k a b : Int32) {y : Nat} (hy : y ≠ cnt s 65) (z : Nat) : tA (ndT s k a b) z y = tA s z y := by
  unfold ndT
  simp only [gT, hy, and_false, if_false]
theorem nd_new (s : tS) (k a b : Int32) : tA (ndT s k a b) 66 (cnt s 65) = k ∧ tA (ndT s k a b) 67 (cnt s 65) = tI s 64 ∧ tA (ndT s k a b) 68 (cnt s 65) = a ∧ tA (ndT s k a b) 69 (cnt s 65) = b ∧ tA (ndT s k a b) 70 (cnt s 65) = -1 ∧ tA (ndT s k a b) 71 (cnt s 65) = -1 ∧ tA (ndT s k a b) 72 (cnt s 65) = -1 := by
  refine ⟨?_, ?_, ?_, ?_, ?_, ?_, ?_⟩ <;> simp [ndT, gT]
theorem nd_cnt {k a b : Int32} (h : cok s 65 900) : cnt (ndT s k a b) 65 = cnt s 65 + 1 ∧ tI (ndT s k a b) 65 = Int32.ofNat (cnt s 65 + 1) := by
  obtain ⟨u1, u2⟩ := cnt_up h (by decide)
  have e : tI (ndT s k a b) 65 = tI (tsI s 65 (tI s 65 + 1)) 65 := rfl
  refine ⟨?_, by rw [e]; exact u2⟩
  unfold cnt at u1 ⊢
  rw [e]; exact u1
theorem ca_of {x j k : Nat} (e : tA s x j = Int32.ofNat k) (hk : k < 2147483648) : ca s x j = k := by unfold ca; rw [e, z_nat hk]
theorem aok_of {x j k b : Nat} (e : tA s x j = Int32.ofNat k) (hk : k < 2147483648) (hb : k ≤ b) : aok s x j b := by
  refine ⟨?_, ?_⟩
  · rw [ca_of e hk]; exact e
  · rw [ca_of e hk]; exact hb
theorem P_node (d : Nat) (k : Nat) (hk : k ≤ 42) (a b : Int32) (h : RP χ n t r p f vo Op Oa Ou E O c s) (hb : cnt s 65 + 1 ≤ 2 * cnt s 62) :
    cT (d + 1) 47 [eR (.ref 0), eI (Int32.ofNat k), eI a, eI b] s = some (.inl (some (eI (Int32.ofNat (cnt s 65)))), ndT s (Int32.ofNat k) a b) ∧ RP χ n t r p f vo (fun y => Op y ∨ y = cnt s 65) Oa Ou E O c (ndT s (Int32.ofNat k) a b) ∧ ST n r f c s f c (ndT s (Int32.ofNat k) a b) := by
  obtain ⟨hL, hfi, hn, hQ, hN, hOu, hOp, hOa, hOu2⟩ := h
  obtain ⟨hS, hC, hG, hLm, hM, hU, hV, hI, hF, hA, hB⟩ := hQ
  obtain ⟨q1, q2, q3, q4, q5⟩ := hC
  have hp400 := q1.1.2
  have hth := nd_th s (Int32.ofNat k) a b
  obtain ⟨u1, u2⟩ := nd_cnt (k := Int32.ofNat k) (a := a) (b := b) q5.1
  have hch := CH_refl [] [] [] [] c
  obtain ⟨n1, n2, n3, n4, n5, n6, n7⟩ := nd_new s (Int32.ofNat k) a b
  have old : ∀ {y : Nat}, y < cnt s 65 → ∀ z, tA (ndT s (Int32.ofNat k) a b) z y = tA s z y := fun hy z => nd_old s _ a b (by omega) z
  have oldc : ∀ {y : Nat}, y < cnt s 65 → ∀ z, ca (ndT s (Int32.ofNat k) a b) z y = ca s z y := fun hy z => ca_eq (old hy z)
  have olda : ∀ {y : Nat}, y < cnt s 65 → ∀ z b', aok (ndT s (Int32.ofNat k) a b) z y b' = aok s z y b' := fun hy z b' => aok_eq (old hy z)
  have hKT : KT s (ndT s (Int32.ofNat k) a b) := by
    refine ⟨fun x hx => ?_, fun i _ => ⟨th_A hth (by decide) i, fun _ => th_A hth (by decide) i, th_A hth (by decide) i, by rw [th_ca hth (by decide)]; exact Nat.le_refl _, fun j _ => th_A hth (by decide) _⟩, fun v _ => ⟨th_A hth (by decide) v, vI_fr hth (by decide) v, th_A hth (by decide) v, rfl⟩, fun _ _ => rfl, fun k _ => th_A hth (by decide) k⟩
    by_cases e : x = 65
    · rw [e, u1]; omega
    · rw [th_cnt hth (by simpa using e)]; exact Nat.le_refl _
  refine ⟨t_node d _ a b q5.1.1 (by omega), ⟨LX_ch hch hth rfl rfl (by decide) hL, hfi, hn, ⟨hS, ⟨q1, q2, q3, q4, cok_of u2 (by omega) (by omega), by rw [u1, th_cnt hth (by decide)]; exact hb⟩, RGt_fr hch hth hS (by decide) hG, RLt_fr hch hth hS (by decide) hLm, RMt_fr hch hth hS (by decide) (by decide) hM, RUt_fr hch hth hS (by decide) (by decide) hU, RVt_fr hch hth hS hU (by decide) hV, RIt_fr hch hth hS hV (by decide) hI, ?_, RAt_fr hch hth hS (by decide) hA, ?_⟩, RNt_fr hth (by decide) hN, hOu, ?_, hOa, hOu2⟩, ⟨KC_refl r c, hKT, fun y hy z _ => old hy z, Nat.le_refl _, Nat.le_refl _, Nat.le_refl _, fun _ q => q⟩⟩
  · obtain ⟨f1, f2⟩ := hF
    have hcu : tI s 64 = Int32.ofNat (cnt s 64) := hI.1.1.1
    have hcu2 : cnt s 64 < cnt s 35 := hI.1.2.1
    have hcu3 := hU.1.2
    have c66 : ca (ndT s (Int32.ofNat k) a b) 66 (cnt s 65) = k := ca_of n1 (by omega)
    have c67 : ca (ndT s (Int32.ofNat k) a b) 67 (cnt s 65) = cnt s 64 := ca_of (n2.trans hcu) (by omega)
    have n35 : cnt (ndT s (Int32.ofNat k) a b) 35 = cnt s 35 := rfl
    have n60 : cnt (ndT s (Int32.ofNat k) a b) 60 = cnt s 60 := rfl
    have t36 : ∀ j, tA (ndT s (Int32.ofNat k) a b) 36 j = tA s 36 j := fun j => th_A hth (by decide) j
    have t40 : ∀ j, tA (ndT s (Int32.ofNat k) a b) 40 j = tA s 40 j := fun j => th_A hth (by decide) j
    have k40 : ∀ j, ca (ndT s (Int32.ofNat k) a b) 40 j = ca s 40 j := fun j => th_ca hth (by decide) j
    have b61 : ∀ j, tB (ndT s (Int32.ofNat k) a b) 61 j = tB s 61 j := fun j => rfl
    have lt : ∀ x, x < cnt s 65 + 1 → ¬ (Op x ∨ x = cnt s 65) → x < cnt s 65 ∧ ¬ Op x := fun x hx ho => ⟨by have : x ≠ cnt s 65 := fun e => ho (Or.inr e); omega, fun q => ho (Or.inl q)⟩
    unfold RFt
    simp only [n35, n60, u1, t36, t40, k40, b61]
    refine ⟨fun x hx => ?_, fun u hu => ?_⟩
    · by_cases e : x = cnt s 65
      · rw [e]
        exact ⟨aok_of (n2.trans hcu) (by omega) (by omega), by rw [c67]; exact hcu2, aok_of n1 (by omega) hk⟩
      · rw [olda (by omega), oldc (by omega), olda (by omega)]
        exact f1 x (by omega)
    · obtain ⟨e1, e2, e3, e4, e5, e6, e7, ⟨b0, b1, b2, b3, e8, e8'⟩, e9, ⟨K, e10, ⟨X, hX, e11⟩, e12⟩, K2, e13, ⟨X2, hX2, e14⟩, e15⟩ := f2 u hu
      have wk : ∀ {P : Nat → Prop} {P' : Nat → Prop}, (∀ x, x < cnt s 65 → (P x → P' x)) → (∃ x, x < cnt s 65 ∧ P x) → ∃ x, x < cnt s 65 + 1 ∧ P' x := fun h ⟨x, h1, h2⟩ => ⟨x, by omega, h x h1 h2⟩
      have wk1 : ∀ {x : Nat} {P P' : Prop}, (x < cnt s 65 → P → P') → (x < cnt s 65 ∧ P) → x < cnt s 65 + 1 ∧ P' := fun h ⟨h1, h2⟩ => ⟨by omega, h h1 h2⟩
      refine ⟨e1, fun q => wk (fun x hx z => ?_) (e2 q), fun x hx ho => ?_, fun q => wk (fun x hx z => ?_) (e4 q), fun x hx ho => ?_, fun q => wk (fun x hx z => ?_) (e6 q), fun x hx ho => ?_, ⟨b0, b1, b2, b3, e8, fun m hm => ⟨fun q => wk (fun x hx z => ?_) ((e8' m hm).1 q), fun x hx ho => ?_⟩⟩, fun x hx ho => ?_, ⟨K, e10, ⟨X, hX, fun i hi => wk1 (fun hx z => ?_) (e11 i hi)⟩, fun x hx ho => ?_⟩, K2, e13, ⟨X2, hX2, fun i hi => wk (fun x hx z => ?_) (e14 i hi)⟩, fun x hx ho => ?_⟩
      · rw [oldc hx, oldc hx]; exact z
      · obtain ⟨g1, g2⟩ := lt x hx ho
        rw [oldc g1, oldc g1]; exact e3 x g1 g2
      · rw [oldc hx, oldc hx]; exact z
      · obtain ⟨g1, g2⟩ := lt x hx ho
        rw [oldc g1, oldc g1]; exact e5 x g1 g2
      · rw [oldc hx, oldc hx]; exact z
      · obtain ⟨g1, g2⟩ := lt x hx ho
        rw [oldc g1, oldc g1]; exact e7 x g1 g2
      · rw [oldc hx, oldc hx, old hx]
        obtain ⟨z0, z⟩ := z
        exact ⟨fun q => by rcases q with q | q; exact z0 q; omega, z⟩
      · obtain ⟨g1, g2⟩ := lt x hx ho
        rw [oldc g1, oldc g1, old g1]; exact (e8' m hm).2 x g1 g2
      · obtain ⟨g1, g2⟩ := lt x hx ho
        rw [oldc g1, olda g1]; exact e9 x g1 g2
      · rw [oldc hx, oldc hx, oldc hx, old hx]
        obtain ⟨z0, z⟩ := z
        exact ⟨fun q => by rcases q with q | q; exact z0 q; omega, z⟩
      · obtain ⟨g1, g2⟩ := lt x hx ho
        rw [oldc g1, oldc g1, oldc g1, old g1]; exact e12 x g1 g2
      · rw [oldc hx, oldc hx, oldc hx]; exact z
      · obtain ⟨g1, g2⟩ := lt x hx ho
        rw [oldc g1, oldc g1, oldc g1, olda g1]; exact e15 x g1 g2
  · exact RBt_mono (KC_refl r c) hKT hU.2.1.1 (fun v hv => (hV.2.1 v hv).2.2.1) rfl (by rw [th_cnt hth (by decide)]; exact Nat.le_refl _) (fun _ _ _ => rfl) (fun i _ _ => th_A hth (by decide) i) (fun y hy _ z _ => old hy z) hB
  · intro y hy
    rw [u1]
    rcases hy with hy | hy
    · obtain ⟨g1, g2⟩ := hOp y hy
      rw [oldc g2]
      exact ⟨g1, by omega⟩
    · rw [hy, ca_of (n2.trans hI.1.1.1) (by have := hI.1.2.1; have := hU.1.2; omega)]
      exact ⟨hOu, by omega⟩
end
