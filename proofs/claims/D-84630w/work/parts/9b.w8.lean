set_option maxRecDepth 100000
set_option maxHeartbeats 4000000
/-! D51: numbers of an open node are written; the next word where a count is ahead -/
section
variable {χ : Nat → Int32} {n t r p f : Nat} {vo : Nat → Nat} {Op Oa Ou : Nat → Prop} {E O : Nat} {c : cS} {s : tS}
theorem P_w {z N : Nat} {v : Int32} (hz : z = 68 ∨ z = 69) (h : RP χ n t r p f vo (fun y => Op y ∨ y = N) Oa Ou E O c s) (hk : ca s 66 N ≠ 10) : RP χ n t r p f vo (fun y => Op y ∨ y = N) Oa Ou E O c (tsA s z N v) ∧ KT s (tsA s z N v) := by
  obtain ⟨hL, hfi, hn, hQ, hN, hOu, hOp, hOa, hOu2⟩ := h
  obtain ⟨hS, hC, hG, hLm, hM, hU, hV, hI, hF, hA, hB⟩ := hQ
  have hch := CH_refl [] [] [] [] c
  have hth : TH [] [] [68, 69] [] s (tsA s z N v) := TH_A (by rcases hz with q | q <;> rw [q] <;> simp) (TH_refl _ _ _ _ s)
  have hKT : KT s (tsA s z N v) := KT_of hth (by decide)
  have o : ∀ y x, x ≠ N → tA (tsA s z N v) y x = tA s y x := fun y x hx => by rw [t_A_A, if_neg (fun q => hx q.2)]
  refine ⟨⟨LX_ch hch hth rfl rfl (by decide) hL, hfi, hn, ⟨hS, RCt_fr hch hth hS (by decide) hC, RGt_fr hch hth hS (by decide) hG, RLt_fr hch hth hS (by decide) hLm, RMt_fr hch hth hS (by decide) (by decide) hM, RUt_fr hch hth hS (by decide) (by decide) hU, RVt_fr hch hth hS hU (by decide) hV, RIt_fr hch hth hS hV (by decide) hI, ?_, RAt_fr hch hth hS (by decide) hA, ?_⟩, RNt_fr hth (by decide) hN, hOu, ?_, hOa, hOu2⟩, hKT⟩
  · have c36 : ∀ j, tA (tsA s z N v) 36 j = tA s 36 j := th_A hth (by decide)
    have c40 : ∀ j, tA (tsA s z N v) 40 j = tA s 40 j := th_A hth (by decide)
    have k40 : ∀ j, ca (tsA s z N v) 40 j = ca s 40 j := th_ca hth (by decide)
    have k66 : ∀ j, ca (tsA s z N v) 66 j = ca s 66 j := th_ca hth (by decide)
    have k67 : ∀ j, ca (tsA s z N v) 67 j = ca s 67 j := th_ca hth (by decide)
    have a66 : ∀ j b, aok (tsA s z N v) 66 j b = aok s 66 j b := fun j b => th_aok hth (by decide)
    have a67 : ∀ j b, aok (tsA s z N v) 67 j b = aok s 67 j b := fun j b => th_aok hth (by decide)
    have b61 : ∀ j, tB (tsA s z N v) 61 j = tB s 61 j := fun _ => rfl
    have n35 : cnt (tsA s z N v) 35 = cnt s 35 := rfl
    have n60 : cnt (tsA s z N v) 60 = cnt s 60 := rfl
    have n65 : cnt (tsA s z N v) 65 = cnt s 65 := rfl
    obtain ⟨f1, f2⟩ := hF
    unfold RFt
    simp only [c36, c40, k40, k66, k67, a66, a67, b61, n35, n60, n65]
    refine ⟨f1, fun u hu => ?_⟩
    obtain ⟨e1, e2, e3, e4, e5, e6, e7, ⟨b0, b1, b2, b3, e8, e8'⟩, e9, ⟨K, e10, ⟨X, hX, e11⟩, e12⟩, K2, e13, ⟨X2, hX2, e14⟩, e15⟩ := f2 u hu
    refine ⟨e1, e2, e3, e4, e5, e6, e7, ⟨b0, b1, b2, b3, e8, fun m hm => ⟨fun q => ?_, fun x hx ho q z' w => ?_⟩⟩, fun x hx ho z' => ?_, ⟨K, e10, ⟨X, hX, fun i hi => ?_⟩, fun x hx ho q z' => ?_⟩, K2, e13, ⟨X2, hX2, fun i hi => ?_⟩, fun x hx ho q z' => ?_⟩
    · obtain ⟨x, x1, x2, x3, x4, x5⟩ := (e8' m hm).1 q
      exact ⟨x, x1, x2, x3, x4, by rw [o 68 x (fun w => x2 (Or.inr w))]; exact x5⟩
    · rw [o 68 x (fun w => ho (Or.inr w))] at w
      exact (e8' m hm).2 x hx ho q z' w
    · rw [aok_eq (o 68 x (fun w => ho (Or.inr w)))]; exact e9 x hx ho z'
    · obtain ⟨x1, x2, x3⟩ := e11 i hi
      refine ⟨x1, x2, ?_⟩
      rw [ca_eq (o 68 (X i) (fun w => x2 (Or.inr w))), o 69 (X i) (fun w => x2 (Or.inr w))]
      exact x3
    · rw [ca_eq (o 68 x (fun w => ho (Or.inr w))), o 69 x (fun w => ho (Or.inr w))]
      exact e12 x hx ho q z'
    · obtain ⟨x, x1, x2, x3, x4⟩ := e14 i hi
      refine ⟨x, x1, x2, x3, ?_⟩
      rw [ca_eq (o 68 x (fun w => hk (by rw [← w]; exact x3)))]
      exact x4
    · rw [aok_eq (o 68 x (fun w => ho (Or.inr w))), ca_eq (o 68 x (fun w => ho (Or.inr w)))]
      exact e15 x hx ho q z'
  · exact RBt_mono (KC_refl r c) hKT hU.2.1.1 (fun v hv => (hV.2.1 v hv).2.2.1) rfl (Nat.le_refl _) (fun _ _ _ => rfl) (fun k _ _ => th_A hth (by decide) k) (fun y hy ho z' _ => o z' y (by rintro rfl; exact ho (hOp y (Or.inr rfl)).1)) hB
  · intro y hy; rw [th_ca hth (by decide)]; exact hOp y hy
end
theorem stA_ahead {s s' : tS} {x j : Nat} {v : Int32} (h : tA s' = tA s) : stA s' (tA (tsA s x j v)) = tsA s' x j v := by
  have e : s'.2.2.1 = s.2.2.1 := h
  show (s'.1, s'.2.1, (fun y i => if y = x ∧ i = j then v else s.2.2.1 y i), s'.2.2.2) = (s'.1, s'.2.1, (fun y i => if y = x ∧ i = j then v else s'.2.2.1 y i), s'.2.2.2)
  rw [e]
section
variable {χ : Nat → Int32} {n t r : Nat} {Oa Ou : Nat → Prop} {O : Nat}
variable {f0 p0 : Nat} {vo0 : Nat → Nat} {Op : Nat → Prop} {E X N K p f : Nat} {L : List cE} {c0 c : cS} {s0 s : tS} {vo : Nat → Nat} {vq : Nat → Nat} {Opq Oaq Ouq : Nat → Prop} {Eq' Oq' : Nat} {sq : tS} {Hq Dq : Nat} {kC : cS → cRes} {kT : tS → tR}
theorem BS_w {z : Nat} {v : Int32} (hz : z = 68 ∨ z = 69) (hz0 : (cLs c0 (r + 8)).length = cnt s0 35) (hB : BS χ n t r f0 vo0 Op Oa Ou E X O c0 s0 N K L p f vo c s) (hK : K ≤ 42) (hk : K ≠ 10) : BS χ n t r f0 vo0 Op Oa Ou E X O c0 s0 N K L p f vo c (tsA s z N v) := by
  have hc := ca_of hB.2.2.2.2.2.2.1 (by omega)
  obtain ⟨hR', hKT⟩ := P_w (v := v) hz hB.1 (by rw [hc]; exact hk)
  have hth : TH [] [] [68, 69] [] s (tsA s z N v) := TH_A (by rcases hz with q | q <;> rw [q] <;> simp) (TH_refl _ _ _ _ s)
  refine BS_go hz0 hB hR' (KC_refl r c) hKT (fun _ _ => rfl) (fun y _ z' _ hN => ?_) (TH_refl _ _ _ _ s0) (KS_trans hB.2.2.2.2.2.1 (KS_th hth (by decide))) hB.2.1.2.2.2.1 hB.2.1.2.2.2.2.1 hB.2.1.2.2.2.2.2.1 hB.2.1.2.2.2.2.2.2
  rw [t_A_A, if_neg]
  rintro ⟨rfl, rfl⟩
  exact hN rfl (by rcases hz with q | q <;> rw [q] <;> simp)
/-- over a word; the reference has counted a let -/
theorem B_next46 (dc dt : Nat) {u : Nat} {v : Int32} (hz : (cLs c0 (r + 8)).length = cnt s0 35) (hB : BS χ n t r f0 vo0 Op Oa Ou E X O c0 s0 N K L p f vo c s) (hF : FH kT)
    (hgo : ∀ c' s' p' f', BS χ n t r f0 vo0 Op Oa Ou E X O c0 s0 N K L p' f' vo c' s' → WK χ n t r p vo (fun y => Op y ∨ y = N) Oa Ou (E + X + sW L) O c s c' s' p' f' → tA s' = tA s → p ≤ f' → cNx c' + 300 * (n - f') ≤ cNx c + 300 * (n - f) → cSl c' + 2000 * (n - f') ≤ cSl c + 2000 * (n - f) → f ≤ f' → (tI s 8 ≠ 0 → f < f' ∧ cNx c' + 300 * (n - f') + 298 ≤ cNx c + 300 * (n - f) ∧ cSl c' + 2000 * (n - f') + 1992 ≤ cSl c + 2000 * (n - f)) → PX χ n t r f0 p0 vq Opq Oaq Ouq Eq' Oq' c0 sq Hq Dq (kC c') (kT (tsA s' 46 u v))) :
    PX χ n t r f0 p0 vq Opq Oaq Ouq Eq' Oq' c0 sq Hq Dq (bV (cC (dc + 20) 1001 [eR (.ref (r + 16))] c) kC) (bV (cT (dt + 20) 6 [eR (.ref 0)] (tsA s 46 u v)) kT) := by
  rcases P_nextA dc dt hB.1 (tA (tsA s 46 u v)) (fun k => by rw [t_A_A, if_neg (by simp)]) with hb | ⟨c2, s3, p3, f3, e5, e6, hW, hA⟩
  · left
    exact j_lx hb (f1 := f) (by have := hB.2.1.2.2.2.1; omega) (by have := hB.2.1.2.2.2.2.1; omega) hF
  · obtain ⟨hB3, hp3⟩ := BS_tok hz hB hW
    obtain ⟨hS, hS2⟩ := WK_ST hB.1 hW
    have e6' : cT (dt + 20) 6 [eR (.ref 0)] (tsA s 46 u v) = some (.inl none, tsA s3 46 u v) := by
      rw [← stA_ahead hA]; exact e6
    rw [e5, e6', b_V, b_V]
    exact hgo c2 s3 p3 f3 hB3 hW hA hp3 hS.2.2.2.1 hS.2.2.2.2.1 hS.2.2.2.2.2.1 hS2
end
