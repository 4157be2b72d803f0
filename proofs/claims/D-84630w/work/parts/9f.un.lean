set_option maxRecDepth 100000
set_option maxHeartbeats 4000000
/-! D55: a unit more: all that is known of the others stays -/
def NU (r : Nat) (c c' : cS) (s s' : tS) (a : Nat) : Prop := LA c (r + 8) (cLs c (r + 8) ++ [.ref a]) c' ∧ TH [35] [] [36, 37, 38, 39, 40, 42, 44, 46, 55] [43] s s' ∧ tI s' 35 = Int32.ofNat (cnt s 35 + 1) ∧ cnt s 35 < 60 ∧ (∀ z k, k ≠ cnt s 35 → tA s' z k = tA s z k) ∧ (∀ k, k ≠ cnt s 35 → tB s' 43 k = tB s 43 k)
section
variable {c c' : cS} {s s' : tS} {r a : Nat} {vo : Nat → Nat}
theorem NU_35 (h : NU r c c' s s' a) : cnt s' 35 = cnt s 35 + 1 := cnt_of h.2.2.1 (by have := h.2.2.2.1; omega)
theorem NU_ch (h : NU r c c' s s' a) (hS : RSt r c) : CH [] [] [] [5903] c c' := LA_ch h.1 (RSt_uL hS)
theorem NU_ls (h : NU r c c' s s' a) (hS : RSt r c) {L k : Nat} (e : cCl c L = k) (hk : k ≠ 5903) : cLs c' L = cLs c L := h.1.2.2.2 L (by rintro rfl; rw [RSt_uL hS] at e; exact hk e.symm)
theorem NU_ll (h : NU r c c' s s' a) (hS : RSt r c) {L k : Nat} (e : cCl c L = k) (hk : k ≠ 5903) (i : Nat) : lid c' L i = lid c L i := by unfold lid; rw [NU_ls h hS e hk]
theorem NU_lid (h : NU r c c' s s' a) (hl : (cLs c (r + 8)).length = cnt s 35) {k : Nat} (hk : k < cnt s 35) : lid c' (r + 8) k = lid c (r + 8) k ∧ nthD .null (cLs c' (r + 8)) k = nthD .null (cLs c (r + 8)) k := by
  unfold lid
  rw [h.1.2.2.1, lst_lt _ _ _ (by rw [hl]; exact hk)]
  exact ⟨rfl, rfl⟩
theorem NU_new (h : NU r c c' s s' a) (hl : (cLs c (r + 8)).length = cnt s 35) : lid c' (r + 8) (cnt s 35) = a ∧ nthD .null (cLs c' (r + 8)) (cnt s 35) = .ref a := by
  unfold lid
  rw [h.1.2.2.1, ← hl, lst_end]
  exact ⟨rfl, rfl⟩
theorem NU_kc (h : NU r c c' s s' a) (hS : RSt r c) (hl : (cLs c (r + 8)).length = cnt s 35) : KC r c c' := by
  obtain ⟨⟨⟨h1, _, h3, _⟩, ⟨e1, e2, e3, e4, e5, e6, e7⟩, _, h4⟩, _⟩ := id h
  exact ⟨h1, h3, fun b _ => ⟨by rw [e6], by rw [e7]⟩, fun x b _ _ => by rw [e1], fun x b _ _ => by rw [e2], fun x b _ _ _ => by rw [e3], fun b hb _ => by rcases hb with q | q <;> exact NU_ls h hS q (by decide), ⟨fun b j _ => by rw [e5], fun b i e q => by rcases e with e | e <;> (rw [NU_ls h hS e (by decide)]; exact ⟨q, fun _ => rfl⟩), fun b _ q => by rw [e1]; exact q⟩, fun k hk => (NU_lid h hl (by rw [← hl]; exact hk)).1⟩
theorem NU_vI (h : NU r c c' s s' a) (hv : ∀ v, v < cnt s 50 → ca s 51 v < cnt s 35) {v : Nat} (q : v < cnt s 50) : vI s' v = vI s v := by
  obtain ⟨_, ht, _, _, h5, _⟩ := id h
  have := hv v q
  unfold vI
  rw [ca_eq (th_A ht (by decide) v), th_A ht (by decide) v, ca_eq (th_A ht (by decide) v), ca_eq (h5 39 _ (by omega)), h5 36 _ (by omega)]
theorem NU_kt (h : NU r c c' s s' a) (hv : ∀ v, v < cnt s 50 → ca s 51 v < cnt s 35) : KT s s' := by
  obtain ⟨_, ht, _, _, h5, _⟩ := id h
  refine ⟨fun x hx => ?_, fun k hk => ⟨h5 36 k (by omega), fun _ => h5 42 k (by omega), h5 40 k (by omega), by rw [ca_eq (h5 44 k (by omega))]; exact Nat.le_refl _, fun i _ => th_A ht (by decide) _⟩, fun v q => ⟨th_A ht (by decide) v, NU_vI h hv q, th_A ht (by decide) v, th_B ht (by decide) v⟩, fun k _ => th_B ht (by decide) k, fun k _ => th_A ht (by decide) k⟩
  by_cases q : x = 35
  · rw [q, NU_35 h]; omega
  · rw [th_cnt ht (by simpa using q)]; exact Nat.le_refl _
theorem NU_RMt (h : NU r c c' s s' a) (hS : RSt r c) (hU : RUt r c s) {x : Nat} (hM : RMt r x c s) : RMt r x c' s' := by
  have hch := NU_ch h hS
  obtain ⟨⟨_, ⟨e1, e2, e3, e4, e5, e6, e7⟩, _, _⟩, ht, _, _, h5, _⟩ := id h
  have hmL := RSt_mL hS
  have h35 := NU_35 h
  obtain ⟨q1, q2, q3⟩ := hM
  have hcn : cnt s' 25 = cnt s 25 := th_cnt ht (by decide)
  unfold RMt
  rw [th_cok ht (by decide), hcn]
  refine ⟨q1, lsr_fr hch hmL (by decide) (by decide) (by decide) q2, fun k hk => ?_⟩
  rw [NU_ll h hS hmL (by decide)]
  obtain ⟨w1, w2, ⟨P, w3, w4, w5⟩, w6, ⟨w7, w8, w9, w10, w11⟩, w12, ⟨w13, w14, w15, w16, w17⟩⟩ := q3 k hk
  unfold mOK
  rw [e1, e2, e3, e6, NU_ls h hS w8 (by decide), NU_ls h hS w14 (by decide), th_B ht (by decide), th_A ht (x := 19) (by decide), th_A ht (x := 27) (by decide), th_aok ht (x := 28) (by decide), th_ca ht (x := 28) (by decide), fAb_fr ht (by decide), th_aok ht (x := 30) (by decide), th_ca ht (x := 30) (by decide), h35]
  refine ⟨w1, w2, ⟨P, w3, pOK_fr hch ht (by decide) (by decide) (by decide) (by decide) w4, w5⟩, ?_, ⟨w7, w8, w9, w10, fun i hi => ?_⟩, w12, ⟨w13, w14, w15, w16, fun i hi => ?_⟩⟩
  · rcases w6 with w6 | ⟨j, j1, j2, j3⟩
    · left; exact w6
    · right; exact ⟨j, j1, j2, by rw [NU_ll h hS hmL (by decide)]; exact j3⟩
  · rw [th_B ht (by decide)]; exact w11 i hi
  · obtain ⟨g1, g2, g3, g4⟩ := w17 i hi
    rw [th_aok ht (by decide), th_ca ht (by decide), h5 36 _ (by omega), (NU_lid h hU.2.1.1 g2).1]
    exact ⟨g1, by omega, g3, g4⟩
theorem NU_uOK (h : NU r c c' s s' a) (hS : RSt r c) (hU : RUt r c s) {k : Nat} (hk : k < cnt s 35) : uOK r c' s' k (lid c' (r + 8) k) := by
  obtain ⟨⟨_, ⟨e1, e2, e3, e4, e5, e6, e7⟩, _, _⟩, ht, _, _, h5, h6⟩ := id h
  have hmL := RSt_mL hS
  have hne : k ≠ cnt s 35 := by omega
  rw [(NU_lid h hU.2.1.1 hk).1]
  have hC := hU.2.2 k hk
  have how : ow s' k = ow s k := by unfold ow; rw [h5 36 k hne, ca_eq (h5 39 k hne), ca_eq (h5 46 k hne)]
  unfold uOK at hC ⊢
  obtain ⟨q1, q2, q3, q4, q5, q6, q7, q8⟩ := hC
  rw [e1, e2, e3, e6, how, aok_eq (h5 36 k hne), h5 36 k hne, h5 38 k hne, aok_eq (h5 37 k hne), ca_eq (h5 37 k hne), th_cnt ht (x := 25) (by decide), NU_ll h hS hmL (by decide), h5 40 k hne, aok_eq (h5 40 k hne), ca_eq (h5 40 k hne), h6 k hne, aok_eq (h5 39 k hne), h5 39 k hne, aok_eq (h5 46 k hne), h5 42 k hne, aok_eq (h5 42 k hne), ca_eq (h5 42 k hne), th_cnt ht (x := 22) (by decide)]
  refine ⟨q1, q2, ?_, q4, q5, q6, q7, q8⟩
  rcases q3 with q3 | ⟨z1, z2, z3, z4⟩
  · left; exact q3
  · right; exact ⟨z1, z2, z3, by rw [(NU_lid h hU.2.1.1 (by omega)).1]; exact z4⟩
theorem NU_RUt (h : NU r c c' s s' a) (hS : RSt r c) (hU : RUt r c s) (ha : cCl c a = 16) (hnew : uOK r c' s' (cnt s 35) a) : RUt r c' s' := by
  have h35 := NU_35 h
  obtain ⟨⟨_, ⟨e1, e2, e3, e4, e5, e6, e7⟩, l1, _⟩, ht, hI, hlt, h5, h6⟩ := id h
  unfold RUt
  rw [h35]
  refine ⟨cok_of hI (by omega) (by omega), ⟨by rw [l1, List.length_append, hU.2.1.1]; rfl, fun k hk => ?_⟩, fun k hk => ?_⟩
  · by_cases q : k = cnt s 35
    · rw [q, (NU_new h hU.2.1.1).1, (NU_new h hU.2.1.1).2, e6]; exact ⟨rfl, ha⟩
    · rw [(NU_lid h hU.2.1.1 (by omega)).1, (NU_lid h hU.2.1.1 (by omega)).2, e6]; exact hU.2.1.2 k (by omega)
  · by_cases q : k = cnt s 35
    · rw [q, (NU_new h hU.2.1.1).1]; exact hnew
    · exact NU_uOK h hS hU (by omega)
theorem u_out (hU : RUt r c s) {k : Nat} (hk : k < cnt s 35) (h : tA s 40 k ≠ -1) : ca s 40 k < k := by
  obtain ⟨_, _, q3, _⟩ := hU.2.2 k hk
  rcases q3 with q3 | ⟨_, z2, _⟩
  · exact absurd q3.1 h
  · exact z2
theorem NU_RVt (h : NU r c c' s s' a) (hS : RSt r c) (hU : RUt r c s) (hV : RVt r vo c s) (h44 : tA s' 44 (cnt s 35) = 0) (hls : cLs c (a + 1) = []) (ha : cCl c (a + 1) = 6605) : RVt r vo c' s' := by
  have h35 := NU_35 h
  obtain ⟨⟨_, ⟨e1, e2, e3, e4, e5, e6, e7⟩, _, _⟩, ht, _, hlt, h5, h6⟩ := id h
  obtain ⟨v1, v2, v3, v4⟩ := hV
  have o51 : ∀ v, tA s' 51 v = tA s 51 v := fun v => th_A ht (by decide) v
  have o53 : ∀ v, tA s' 53 v = tA s 53 v := fun v => th_A ht (by decide) v
  have o54 : ∀ v, tA s' 54 v = tA s 54 v := fun v => th_A ht (by decide) v
  have o45 : ∀ v, tA s' 45 v = tA s 45 v := fun v => th_A ht (by decide) v
  have n50 : cnt s' 50 = cnt s 50 := th_cnt ht (by decide)
  unfold RVt
  rw [th_cok ht (by decide), n50, h35]
  refine ⟨v1, fun v hv => ?_, v3, fun k hk => ?_⟩
  · obtain ⟨w1, w2, w3, w4, w5, w6, w7, w8⟩ := v2 v hv
    have hvI : vI s' v = vI s v := by
      unfold vI
      rw [ca_eq (o53 v), o54 v, ca_eq (o51 v), ca_eq (h5 39 _ (by omega)), h5 36 _ (by omega)]
    rw [e6, e3, e1, aok_eq (o51 v), ca_eq (o51 v), (NU_lid h hU.2.1.1 w3).1, o54 v, aok_eq (o53 v), hvI]
    exact ⟨w1, w2, by omega, w4, w5, w6, w7, w8⟩
  · by_cases q : k = cnt s 35
    · have hc0 : ca s' 44 (cnt s 35) = 0 := by unfold ca; rw [h44]; rfl
      rw [q, (NU_new h hU.2.1.1).1, hc0]
      refine ⟨?_, ⟨by rw [NU_ls h hS ha (by decide), hls]; rfl, fun i hi => absurd hi (Nat.not_lt_zero _)⟩, fun i hi => absurd hi (Nat.not_lt_zero _), fun i j hi => absurd hi (Nat.not_lt_zero _)⟩
      exact aok_of (k := 0) h44 (by decide) (by decide)
    · have hk2 : k < cnt s 35 := by omega
      obtain ⟨w1, w2, w3, w4⟩ := v4 k hk2
      have hcap := (RUt_cap hU hk2).1
      rw [(NU_lid h hU.2.1.1 hk2).1, aok_eq (h5 44 k q), ca_eq (h5 44 k q)]
      refine ⟨w1, lsr_fr (NU_ch h hS) hcap (by decide) (by decide) (by decide) w2, fun i hi => ?_, fun i j hi hj e => w4 i j hi hj (by rw [o45, o45] at e; exact e)⟩
      obtain ⟨g1, g2, g3, g4, g5, g6, o', g7, g8⟩ := w3 i hi
      have hout := u_out hU hk2 g3
      rw [aok_eq (o45 _), ca_eq (o45 _), h5 40 k q, ca_eq (h5 40 k q), ca_eq (o51 _), NU_ll h hS hcap (by decide), e3, e1]
      refine ⟨g1, g2, g3, g4, g5, g6, o', g7, ?_⟩
      unfold vR at g8 ⊢
      rw [o51, ca_eq (h5 44 _ (by omega)), (NU_lid h hU.2.1.1 (show ca s 40 k < cnt s 35 by omega)).1, NU_ls h hS (RUt_cap hU (show ca s 40 k < cnt s 35 by omega)).1 (by decide)]
      rcases g8 with g8 | ⟨z1, i', z2, z3, z4⟩
      · left; exact g8
      · right; exact ⟨z1, i', z2, by rw [o45]; exact z3, z4⟩
theorem NU_anc (h : NU r c c' s s' a) (hU : RUt r c s) : ∀ g w v, w < cnt s 35 → anc s' g w v = anc s g w v := by
  obtain ⟨_, _, _, _, h5, _⟩ := id h
  intro g
  induction g with
  | zero => intro w v _; rfl
  | succ g ih =>
    intro w v hw
    unfold anc
    rw [h5 40 w (by omega), ca_eq (h5 40 w (by omega))]
    by_cases q : tA s 40 w = -1
    · simp [q]
    · rw [ih _ v (by have := u_out hU hw q; omega)]
theorem NU_RIt (h : NU r c c' s s' a) (hS : RSt r c) (hU : RUt r c s) (hI : RIt r vo c s) : RIt r vo c' s' := by
  have h35 := NU_35 h
  obtain ⟨⟨_, ⟨e1, e2, e3, e4, e5, e6, e7⟩, _, _⟩, ht, _, hlt, h5, h6⟩ := id h
  obtain ⟨⟨q1, q2, q2'⟩, ⟨q3, q3', q3''⟩, ⟨q4, q5, q6⟩, q, q7, q8, q9, q10, q11, q12, q13, q14⟩ := hI
  have nI : ∀ x, x ≠ 35 → cnt s' x = cnt s x := fun x hx => th_cnt ht (by simpa using hx)
  have nA : ∀ x, x ∈ [51, 57] → ∀ k, tA s' x k = tA s x k := fun x hx k => th_A ht (by simp only [List.mem_cons, List.not_mem_nil, or_false] at hx ⊢; omega) k
  have q6' : ∀ i, i < cnt s 56 → aok s' 57 i 499 ∧ ca s' 57 i < cnt s 50 ∧ nthD .null (cLs c (r + 15)) i = .ref (vo (ca s' 57 i)) ∧ nm (cL c 1700 (vo (ca s' 57 i))) (tB s' 52 (ca s' 57 i)) ∧ anc s' 60 (cnt s 64) (ca s' 51 (ca s' 57 i)) := fun i hi => by
    obtain ⟨g1, g2, g3, g4, g5⟩ := q6 i hi
    rw [aok_eq (nA 57 (by simp) _), ca_eq (nA 57 (by simp) _), th_B ht (by decide), NU_anc h hU _ _ _ q2, ca_eq (nA 51 (by simp) _)]
    exact ⟨g1, g2, g3, g4, g5⟩
  unfold RIt
  rw [th_cok ht (x := 64) (by decide), th_cok ht (x := 56) (by decide), nI 64 (by decide), nI 25 (by decide), nI 56 (by decide), nI 50 (by decide), h35, e3, (NU_lid h hU.2.1.1 q2).1, NU_ll h hS (RSt_mL hS) (by decide), NU_ls h hS (RSt_vL hS) (by decide), ca_eq (h5 37 _ (by omega)), e2]
  refine ⟨⟨q1, by omega, q2'⟩, ⟨q3, q3', q3''⟩, ⟨q4, q5, q6'⟩, q, by omega, by rw [h5 40 q (by omega)]; exact q8, by rw [NU_anc h hU _ _ _ q2]; exact q9, by rw [aok_eq (h5 55 q (by omega))]; exact q10, by rw [ca_eq (h5 55 q (by omega))]; exact q11, by rw [ca_eq (h5 55 q (by omega)), ca_eq (nA 51 (by simp) _)]; exact q12, by rw [ca_eq (h5 55 q (by omega))]; exact q13, ?_⟩
  · intro k hk ha j hj
    rw [nI 64 (by decide), NU_anc h hU _ _ _ q2] at ha
    have hk2 := anc_le hU _ _ _ q2 ha
    rw [ca_eq (h5 44 k (by omega))] at hj
    rw [th_ca ht (x := 45) (by decide), ca_eq (h5 55 q (by omega)), nI 56 (by decide)]
    rcases q14 k (by omega) ha j hj with ⟨l, l1, l2⟩ | w
    · exact Or.inl ⟨l, l1, by rw [ca_eq (nA 57 (by simp) _)]; exact l2⟩
    · exact Or.inr w
theorem NU_RFt {Op : Nat → Prop} (h : NU r c c' s s' a) (hS : RSt r c) (hU : RUt r c s) (hF : RFt r Op c s) (hfl : ∀ y, y ∈ [1612, 1613, 1615, 1616] → cI c y a = 0) (h3 : cLs c (a + 3) = [] ∧ cCl c (a + 3) = 6614) (h5' : cLs c (a + 5) = [] ∧ cCl c (a + 5) = 6617) : RFt r Op c' s' := by
  have h35 := NU_35 h
  obtain ⟨⟨_, ⟨e1, e2, e3, e4, e5, e6, e7⟩, _, _⟩, ht, _, hlt, h5, h6⟩ := id h
  obtain ⟨f1, f2⟩ := hF
  have k66 : ∀ j, ca s' 66 j = ca s 66 j := th_ca ht (by decide)
  have k67 : ∀ j, ca s' 67 j = ca s 67 j := th_ca ht (by decide)
  have k68 : ∀ j, ca s' 68 j = ca s 68 j := th_ca ht (by decide)
  have t68 : ∀ j, tA s' 68 j = tA s 68 j := th_A ht (by decide)
  have t69 : ∀ j, tA s' 69 j = tA s 69 j := th_A ht (by decide)
  have a66 : ∀ j b, aok s' 66 j b = aok s 66 j b := fun j b => th_aok ht (by decide)
  have a67 : ∀ j b, aok s' 67 j b = aok s 67 j b := fun j b => th_aok ht (by decide)
  have a68 : ∀ j b, aok s' 68 j b = aok s 68 j b := fun j b => th_aok ht (by decide)
  have b61 : ∀ j, tB s' 61 j = tB s 61 j := th_B ht (by decide)
  have n60 : cnt s' 60 = cnt s 60 := th_cnt ht (by decide)
  have n65 : cnt s' 65 = cnt s 65 := th_cnt ht (by decide)
  have nx : ∀ x, x < cnt s 65 → ca s 67 x ≠ cnt s 35 := fun x hx q => by have := (f1 x hx).2.1; omega
  unfold RFt
  simp only [k66, k67, k68, t68, t69, a66, a67, a68, b61, n60, n65, h35, e1, e2, e3, e6]
  refine ⟨fun x hx => ⟨(f1 x hx).1, by have := (f1 x hx).2.1; omega, (f1 x hx).2.2⟩, fun k hk => ?_⟩
  by_cases q : k = cnt s 35
  · have g0 := hfl
    rw [q, (NU_new h hU.2.1.1).1]
    refine ⟨fun y hy => Or.inl (hfl y (by simp only [List.mem_cons, List.not_mem_nil, or_false] at hy ⊢; omega)), fun w => ?_, fun x hx ho w => absurd w (nx x hx), fun w => ?_, fun x hx ho w => absurd w (nx x hx), fun w => ?_, fun x hx ho w => absurd w (nx x hx), ⟨false, false, false, false, by rw [hfl 1615 (by simp)]; rfl, fun m hm => ⟨fun w => ?_, fun x hx ho w => absurd w (nx x hx)⟩⟩, fun x hx ho w => (f2 _ (f1 x hx).2.1).2.2.2.2.2.2.2.2.1 x hx ho w, ⟨0, ⟨by rw [NU_ls h hS h3.2 (by decide), h3.1]; rfl, fun i hi => absurd hi (Nat.not_lt_zero _)⟩, ⟨id, fun i j hi => absurd hi (Nat.not_lt_zero _), fun i hi => absurd hi (Nat.not_lt_zero _)⟩, fun x hx ho w => absurd w (nx x hx)⟩, 0, ⟨by rw [NU_ls h hS h5'.2 (by decide), h5'.1]; rfl, fun i hi => absurd hi (Nat.not_lt_zero _)⟩, ⟨id, fun i j hi => absurd hi (Nat.not_lt_zero _), fun i hi => absurd hi (Nat.not_lt_zero _)⟩, fun x hx ho w => absurd w (nx x hx)⟩
    · rw [hfl 1612 (by simp)] at w; exact absurd w (by decide)
    · rw [hfl 1613 (by simp)] at w; exact absurd w (by decide)
    · rw [hfl 1616 (by simp)] at w; exact absurd w (by decide)
    · rcases m with _ | _ | _ | _ | m <;> first | exact absurd w (by decide) | omega
  · have hk2 : k < cnt s 35 := by omega
    rw [(NU_lid h hU.2.1.1 hk2).1]
    obtain ⟨g1, g2, g3, g4⟩ := RUt_cap hU hk2
    obtain ⟨w1, w2, w3, w4, w5, w6, w7, w8, w9, ⟨K, w10, ⟨X, hX, w11⟩, w12⟩, K2, w13, ⟨X2, hX2, w14⟩, w15⟩ := f2 k hk2
    have es : ∀ i, lid c' (lid c (r + 8) k + 3) i = lid c (lid c (r + 8) k + 3) i := fun i => NU_ll h hS g2 (by decide) i
    have ei : ∀ i, lid c' (lid c (r + 8) k + 5) i = lid c (lid c (r + 8) k + 5) i := fun i => NU_ll h hS g3 (by decide) i
    have hch := NU_ch h hS
    refine ⟨w1, w2, w3, w4, w5, w6, w7, w8, w9, ⟨K, lsr_fr hch g2 (by decide) (by decide) (by decide) w10, ⟨X, hX, fun i hi => ?_⟩, fun x x1 x2 x3 x4 => ?_⟩, K2, lsr_fr hch g3 (by decide) (by decide) (by decide) w13, ⟨X2, hX2, fun i hi => ?_⟩, fun x x1 x2 x3 x4 => ?_⟩
    · obtain ⟨x1, x2, x3, x4, x5, x6, x7, L, x8, x9, x10⟩ := w11 i hi
      rw [es]
      exact ⟨x1, x2, x3, x4, x5, x6, x7, L, x8, x9, by rw [NU_ls h hS x9 (by decide)]; exact x10⟩
    · obtain ⟨i, hi, x5, x6, x7, L, x8, x9, x10⟩ := w12 x x1 x2 x3 x4
      refine ⟨i, hi, ?_⟩
      rw [es]
      exact ⟨x5, x6, x7, L, x8, x9, by rw [NU_ls h hS x9 (by decide)]; exact x10⟩
    · obtain ⟨x, x1, x2, x3, x4, x5, x6, x7⟩ := w14 i hi
      refine ⟨x, x1, x2, x3, x4, by omega, by rw [h5 36 _ (by omega)]; exact x6, ?_⟩
      rw [ei, (NU_lid h hU.2.1.1 x5).1]; exact x7
    · obtain ⟨x5, x6, x7, x8, x9⟩ := w15 x x1 x2 x3 x4
      rw [h5 40 _ (by omega), ca_eq (h5 40 _ (by omega)), h5 36 _ (by omega)]
      refine ⟨x5, by omega, x7, x8, fun w => ?_⟩
      obtain ⟨i, i1, i2⟩ := x9 w
      exact ⟨i, i1, by rw [ei, (NU_lid h hU.2.1.1 x6).1]; exact i2⟩
theorem sumTo_eq {W W' : Nat → Nat} : ∀ n, (∀ k, k < n → W' k = W k) → sumTo W' n = sumTo W n := by
  intro n
  induction n with
  | zero => intro _; rfl
  | succ n ih => intro h; unfold sumTo; rw [ih (fun k hk => h k (by omega)), h n (by omega)]
theorem NU_RBt {Ou : Nat → Prop} {E : Nat} (h : NU r c c' s s' a) (hS : RSt r c) (hU : RUt r c s) (hV : RVt r vo c s) (hB : RBt r Ou E c s) : RBt r (fun k => Ou k ∨ k = cnt s 35) E c' s' := by
  have h35 := NU_35 h
  have hKC := NU_kc h hS hU.2.1.1
  have hKT := NU_kt h (fun v hv => (hV.2.1 v hv).2.2.1)
  obtain ⟨⟨_, ⟨e1, e2, e3, e4, e5, e6, e7⟩, _, _⟩, ht, _, hlt, h5, h6⟩ := id h
  obtain ⟨Wt, q1, q2⟩ := hB
  refine ⟨fun k => if k = cnt s 35 then 0 else Wt k, ?_, fun k hk ho => ?_⟩
  · rw [h35, th_cnt ht (x := 62) (by decide)]
    show sumTo _ (cnt s 35) + (if cnt s 35 = cnt s 35 then 0 else Wt (cnt s 35)) + E ≤ _
    rw [if_pos rfl, sumTo_eq (W := Wt) _ (fun k hk => if_neg (by omega))]
    omega
  · rw [h35] at hk
    have hk2 : k ≠ cnt s 35 := fun q => ho (Or.inr q)
    have hk3 : k < cnt s 35 := by omega
    obtain ⟨g, b, x, w1, w2, w3, w9⟩ := q2 k hk3 (fun q => ho (Or.inl q))
    refine ⟨g, b, x, by rw [(NU_lid h hU.2.1.1 hk3).1, e3]; exact w1, by rw [th_A ht (by decide)]; exact w2, ?_, by rw [h5 36 k (by omega), h5 42 k (by omega)]; exact w9⟩
    dsimp only
    rw [if_neg hk2]
    exact TR_mono hKC hKT hU.2.1.1 (fun v hv => (hV.2.1 v hv).2.2.1) (fun y _ z hz => th_A ht (by simp only [List.mem_cons, List.not_mem_nil, or_false] at hz ⊢; omega) y) hk3 g _ _ _ _ _ (fun z hz => th_A ht (by simp only [List.mem_cons, List.not_mem_nil, or_false] at hz ⊢; omega) _) w3
end
