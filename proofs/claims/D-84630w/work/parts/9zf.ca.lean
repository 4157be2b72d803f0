set_option maxRecDepth 100000
set_option maxHeartbeats 4000000
/-! D80: what a unit captures: the component's side -/
section
variable {r : Nat} {vo : Nat → Nat} {c c' : cS} {s s' : tS}
theorem meq_ref {X : Type} (a b : Nat) (t f : mR X) : meq (.ref a) (.ref b) t f = if a = b then t else f := by
  unfold meq
  rw [if_pos ⟨rfl, rfl⟩]
  by_cases q : a = b
  · rw [if_pos q, if_pos (by rw [q])]
  · rw [if_neg q, if_neg (fun w => q (Value.ref.inj w))]
theorem vR_fun {w v o o' : Nat} (hV : RVt r vo c s) (hw : w < cnt s 35) (h1 : vR r vo c s w v o) (h2 : vR r vo c s w v o') : o = o' := by
  rcases h1 with ⟨a1, a2⟩ | ⟨a1, i, i1, i2, i3⟩ <;> rcases h2 with ⟨b1, b2⟩ | ⟨b1, j, j1, j2, j3⟩
  · rw [a2, b2]
  · exact absurd a1 b1
  · exact absurd b1 a1
  · have := (hV.2.2.2 w hw).2.2.2 i j i1 j1 (i2.trans j2.symm)
    rw [this] at i3
    exact Value.ref.inj (i3.symm.trans j3)
theorem vR_inj {w v v' o : Nat} (hV : RVt r vo c s) (hw : w < cnt s 35) (hv : v < cnt s 50) (hv' : v' < cnt s 50) (h1 : vR r vo c s w v o) (h2 : vR r vo c s w v' o) : v = v' := by
  obtain ⟨v1, v2, v3, v4⟩ := hV
  obtain ⟨q1, q2, q3, q4⟩ := v4 w hw
  have h5 := v1.2
  have own : ∀ v : Nat, v < cnt s 50 → o = vo v → ∀ i, i < ca s 44 w → nthD .null (cLs c (lid c (r + 8) w + 1)) i = .ref o → False := fun v hv e i hi ei => by
    obtain ⟨_, _, _, _, _, _, o2, e2, _⟩ := q3 i hi
    have e3 := (q2.2 i hi).1
    rw [e3] at ei
    rw [Value.ref.inj ei, e, (v2 v hv).2.2.2.2.1] at e2
    cases e2
  rcases h1 with ⟨a1, a2⟩ | ⟨a1, i, i1, i2, i3⟩ <;> rcases h2 with ⟨b1, b2⟩ | ⟨b1, j, j1, j2, j3⟩
  · exact v3 v v' hv hv' (a2.symm.trans b2)
  · exact (own v hv a2 j j1 j3).elim
  · exact (own v' hv' b2 i i1 i3).elim
  · have h13 := q1.2
    have e1 := (q2.2 i i1).1
    have e2 := (q2.2 j j1).1
    obtain ⟨_, _, _, _, f1, _⟩ := q3 i i1
    obtain ⟨_, _, _, _, f2, _⟩ := q3 j j1
    rw [e1] at i3
    rw [e2] at j3
    rw [Value.ref.inj i3] at f1
    rw [Value.ref.inj j3, f1, z_eq (by omega) (by omega)] at f2
    rw [f2, j2, z_eq (by omega) (by omega)] at i2
    exact i2.symm
theorem useOK_vR {u v o : Nat} (hV : RVt r vo c s) (hu : u < cnt s 35) (h60 : cnt s 35 ≤ 60) (hv : v < cnt s 50) (h : vR r vo c s u v o) : useOK r c s u v o := by
  obtain ⟨v1, v2, v3, v4⟩ := hV
  rcases h with ⟨a1, a2⟩ | ⟨a1, i, i1, i2, i3⟩
  · obtain ⟨w1, w2, w3, w4, w5, w6, w7, w8⟩ := v2 v hv
    rw [ca_of a1 (by omega)] at w4
    rw [a2]
    exact ⟨w1, w4, hv, Or.inl ⟨w5, a1, w8⟩⟩
  · obtain ⟨q1, q2, q3, q4⟩ := v4 u hu
    obtain ⟨e1, e2⟩ := q2.2 i i1
    obtain ⟨_, _, _, f0, f1, _, o2, f3, _⟩ := q3 i i1
    rw [e1] at i3
    rw [Value.ref.inj i3] at e2 f0 f1 f3
    exact ⟨e2, f0, hv, Or.inr ⟨o2, f3, a1, i, i1, i2, f1⟩⟩
theorem anc_root (q q' : Nat) (h1 : tA s 40 q = -1) (h2 : tA s 40 q' = -1) : ∀ g w, anc s g w q → anc s g w q' → q = q' := by
  intro g
  induction g with
  | zero => intro w h; exact h.elim
  | succ g ih =>
    intro w h k
    unfold anc at h k
    rcases h with h | ⟨a1, a2⟩ <;> rcases k with k | ⟨b1, b2⟩
    · exact h.symm.trans k
    · rw [h] at b1; exact absurd h1 b1
    · rw [k] at a1; exact absurd h2 a1
    · exact ih _ a2 b2
theorem anc_next {u : Nat} (h40 : tA s 40 u ≠ -1) : ∀ g w, anc s g w u → anc s (g + 1) w (ca s 40 u) := by
  intro g
  induction g with
  | zero => intro w h; exact h.elim
  | succ g ih =>
    intro w h
    have h' : w = u ∨ (tA s 40 w ≠ -1 ∧ anc s g (ca s 40 w) u) := h
    show w = _ ∨ (tA s 40 w ≠ -1 ∧ anc s (g + 1) (ca s 40 w) (ca s 40 u))
    rcases h' with h | ⟨a1, a2⟩
    · rw [h]
      exact Or.inr ⟨h40, Or.inl rfl⟩
    · exact Or.inr ⟨a1, ih _ a2⟩
theorem anc_nx {u w : Nat} (hU : RUt r c s) (h40 : tA s 40 u ≠ -1) (hw : w < cnt s 35) (h : anc s 60 w u) : anc s 60 w (ca s 40 u) := by
  have := hU.1.2
  exact anc_up hU _ _ _ hw (anc_next h40 60 w h) 60 (by omega)
/-- a variable that a unit captures: made -/
def vcC (c : cS) (u o k : Nat) (a : Int64) : cS := csI (csR (csR (csL (nwC c 17) 1700 (cNx c) a) 1701 (cNx c) (.ref u)) 1702 (cNx c) (.ref o)) 1703 (cNx c) (Int32.ofNat k)
theorem c_vc (d : Nat) {u o k : Nat} {a : Int64} : cC (d + 11) 1700 [eR (.ref (cNx c)), eL a, eR (.ref u), eR (.ref o), eI (Int32.ofNat k)] (nwC c 17) = some (.inl none, vcC c u o k a) := by
  have ha := nw_cl c 17
  rw [kX17_init, r_cck, if_pos ha, uX17_init]
  simp only [pP, ha, show misR (.ref u) = true from rfl, show misR (.ref o) = true from rfl, rC, bB, Nat.reduceDiv, Nat.reduceLeDiff, Nat.reduceLT,  eq_self, if_true, if_false, true_and, and_true, false_and, and_false, or_true, true_or, or_false, false_or, reduceIte, reduceCtorEq, Nat.reduceEqDiff, not_true_eq_false, not_false_eq_true, r_misN, r_misR, gC]
  rfl
theorem c_add2 (d : Nat) {a k : Nat} (e : cCl c a = k) (hk : cak k = 9) (hl : (cLs c a).length ≤ 12) (v : Value) : ∃ c', cC (d + 9) 9105 [eR (.ref a), eR v] c = some (.inl (some (eI 1)), c') ∧ LA c a (cLs c a ++ [v]) c' ∧ cSl c' ≤ cSl c + 19 := by
  obtain ⟨c', e1, e2⟩ := c_add d e hk (by omega) v
  refine ⟨c', e1, e2, ?_⟩
  rw [pq_add] at e1; unfold cladd at e1; rw [if_pos ⟨cisL_of e hk, by omega⟩] at e1
  by_cases q : (cLs c a).length < cCap c a
  · rw [if_pos q] at e1
    cases e1
    show cSl c ≤ _; omega
  · rw [if_neg q] at e1
    cases e1
    show cSl c + cgrow (cCap c a) ≤ _
    have : cCap c a ≤ 12 := by omega
    unfold cgrow
    split
    · omega
    · split <;> omega
end
section
variable {χ : Nat → Int32} {n t r p f : Nat} {vo : Nat → Nat} {Op Oa Ou : Nat → Prop} {E O : Nat} {c : cS} {s : tS}
theorem c_reach13 (d : Nat) {u v o : Nat} {x1 : Value} (h : RP χ n t r p f vo Op Oa Ou E O c s) (hu : u < cnt s 35) (hv : v < cnt s 50) (hvR : vR r vo c s (ca s 40 u) v o) (h40 : tA s 40 u ≠ -1) :
    ∀ m k, k + m = ca s 44 u → (∀ j, j < k → ca s 45 (16 * u + j) ≠ v) →
    (∃ i, i < ca s 44 u ∧ tA s 45 (16 * u + i) = Int32.ofNat v ∧ fX16_reach_13 (cC (d + 9)) (.ref (lid c (r + 8) u)) x1 (.ref o) (Int32.ofNat k) c = some (.inl (some (eR (.ref (lid c (lid c (r + 8) u + 1) i)))), c)) ∨
    ((∀ j, j < ca s 44 u → ca s 45 (16 * u + j) ≠ v) ∧ fX16_reach_13 (cC (d + 9)) (.ref (lid c (r + 8) u)) x1 (.ref o) (Int32.ofNat k) c = fX16_reach_13 (cC (d + 9)) (.ref (lid c (r + 8) u)) x1 (.ref o) (Int32.ofNat (ca s 44 u)) c) := by
  have hU := h.2.2.2.1.2.2.2.2.2.1
  have hV := h.2.2.2.1.2.2.2.2.2.2.1
  have hcap := RUt_cap hU hu
  have h1605 := (hU.2.2 u hu).2.2.2.1.1
  obtain ⟨q1, q2, q3, q4⟩ := hV.2.2.2 u hu
  have hout := u_out hU hu h40
  have h13 := q1.2
  intro m
  induction m with
  | zero =>
    intro k hk hj
    right
    have : k = ca s 44 u := by omega
    rw [this] at hj ⊢
    exact ⟨hj, rfl⟩
  | succ m ih =>
    intro k hk hj
    have hkn : k < ca s 44 u := by omega
    obtain ⟨e1, e2⟩ := q2.2 k hkn
    obtain ⟨f1, f2, _, _, _, _, o2, f3, f4⟩ := q3 k hkn
    have ek : Int32.ofNat k + 1 = Int32.ofNat (k + 1) := by rw [show (1 : Int32) = Int32.ofNat 1 from rfl, z_add]
    have hstep : fX16_reach_13 (cC (d + 9)) (.ref (lid c (r + 8) u)) x1 (.ref o) (Int32.ofNat k) c = if o2 = o then some (.inl (some (eR (.ref (lid c (lid c (r + 8) u + 1) k)))), c) else fX16_reach_13 (cC (d + 9)) (.ref (lid c (r + 8) u)) x1 (.ref o) (Int32.ofNat (k + 1)) c := by
      rw [uX16_reach_13, r_cgR, if_pos hcap.2.2.2, h1605, c_len d hcap.1 rfl, b_I, q2.1, if_pos (by rw [z_lt (by omega) (by omega)]; exact hkn), r_cgR, if_pos hcap.2.2.2, h1605, c_get d hcap.1 rfl (by rw [q2.1]; exact hkn) (by omega), b_R, e1, r_castR, if_pos (Or.inl e2), r_cgR, if_pos e2, f3, meq_ref, r_cgR, if_pos hcap.2.2.2, h1605, c_get d hcap.1 rfl (by rw [q2.1]; exact hkn) (by omega), b_R, e1, r_castR, if_pos (Or.inl e2), ek]
    rw [hstep]
    by_cases w : o2 = o
    · left
      rw [if_pos w]
      rw [w] at f4
      have := vR_inj hV (by omega) f2 hv f4 hvR
      exact ⟨k, hkn, by rw [← this]; exact f1.1, rfl⟩
    · rw [if_neg w]
      exact ih (k + 1) (by omega) (fun j hj' => by
        by_cases e : j = k
        · rw [e]
          intro z
          rw [z] at f4
          exact w (vR_fun hV (by omega) f4 hvR)
        · exact hj j (by omega))
end
section
variable {χ : Nat → Int32} {n t r p f : Nat} {vo : Nat → Nat} {Op Oa Ou : Nat → Prop} {E O : Nat} {c : cS} {s : tS}
/-- a variable that can be seen, or self -/
def visV (s : tS) (v : Nat) : Prop := (∃ j, j < cnt s 56 ∧ v = ca s 57 j) ∨ ∃ q, tA s 40 q = -1 ∧ anc s 60 (cnt s 64) q ∧ v = ca s 55 q
theorem visV_th {s' : tS} {v : Nat} (ht : TH [] [] [44, 45] [] s s') (h : visV s v) : visV s' v := by
  rcases h with ⟨j, j1, j2⟩ | ⟨q, q1, q2, q3⟩
  · exact Or.inl ⟨j, by rw [th_cnt ht (by decide)]; exact j1, by rw [th_ca ht (by decide)]; exact j2⟩
  · exact Or.inr ⟨q, by rw [th_A ht (by decide)]; exact q1, by rw [anc_fr ht (by decide), th_cnt ht (by decide)]; exact q2, by rw [th_ca ht (by decide)]; exact q3⟩
/-- there is room for a capture more -/
theorem cap_room {u v : Nat} (h : RP χ n t r p f vo Op Oa Ou E O c s) (hu : u < cnt s 35) (hanc : anc s 60 (cnt s 64) u) (hvis : visV s v) (hno : ∀ j, j < ca s 44 u → ca s 45 (16 * u + j) ≠ v) : ca s 44 u + 1 ≤ 13 := by
  have hV := h.2.2.2.1.2.2.2.2.2.2.1
  obtain ⟨_, _, ⟨i3, _, _⟩, q, _, q8, q9, _, _, _, _, q14⟩ := h.2.2.2.1.2.2.2.2.2.2.2.1
  obtain ⟨q1, q2, q3, q4⟩ := hV.2.2.2 u hu
  have h12 := i3.2
  have hpos : ∀ i, i < ca s 44 u + 1 → ∃ P, P < 13 ∧ ((P = 12 ∧ (if i = ca s 44 u then v else ca s 45 (16 * u + i)) = ca s 55 q) ∨ (P < cnt s 56 ∧ (if i = ca s 44 u then v else ca s 45 (16 * u + i)) = ca s 57 P)) := fun i hi => by
    by_cases e : i = ca s 44 u
    · rw [if_pos e]
      rcases hvis with ⟨j, j1, j2⟩ | ⟨q', z1, z2, z3⟩
      · exact ⟨j, by omega, Or.inr ⟨j1, j2⟩⟩
      · rw [anc_root q' q z1 q8 _ _ z2 q9] at z3
        exact ⟨12, by decide, Or.inl ⟨rfl, z3⟩⟩
    · rw [if_neg e]
      rcases q14 u hu hanc i (by omega) with ⟨j, j1, j2⟩ | w
      · exact ⟨j, by omega, Or.inr ⟨j1, j2⟩⟩
      · exact ⟨12, by decide, Or.inl ⟨rfl, w⟩⟩
  have hX := injK_le 13 (ca s 44 u + 1) (fun i => if hi : i < ca s 44 u + 1 then Classical.choose (hpos i hi) else 0) (fun i j hi hj w => by
    simp only [dif_pos hi, dif_pos hj] at w
    obtain ⟨a1, a2⟩ := Classical.choose_spec (hpos i hi)
    obtain ⟨b1, b2⟩ := Classical.choose_spec (hpos j hj)
    rw [w] at a2
    have e : (if i = ca s 44 u then v else ca s 45 (16 * u + i)) = (if j = ca s 44 u then v else ca s 45 (16 * u + j)) := by
      rcases a2 with ⟨x1, x2⟩ | ⟨x1, x2⟩ <;> rcases b2 with ⟨y1, y2⟩ | ⟨y1, y2⟩
      · exact x2.trans y2.symm
      · omega
      · omega
      · exact x2.trans y2.symm
    by_cases ei : i = ca s 44 u <;> by_cases ej : j = ca s 44 u
    · omega
    · rw [if_pos ei, if_neg ej] at e; exact absurd e.symm (hno j (by omega))
    · rw [if_neg ei, if_pos ej] at e; exact absurd e (hno i (by omega))
    · rw [if_neg ei, if_neg ej] at e
      have h1 := (q3 i (by omega)).1.1
      have h2 := (q3 j (by omega)).1.1
      exact q4 i j (by omega) (by omega) (by rw [h1, h2, e])) (fun i hi => by
    simp only [dif_pos hi]
    exact (Classical.choose_spec (hpos i hi)).1)
  exact hX
end
