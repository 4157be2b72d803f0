set_option maxRecDepth 100000
set_option maxHeartbeats 4000000
/-! D48: lists; what can be seen: one more, some less -/
theorem lst_lt {α : Type} {d : α} : ∀ (l : List α) (x : α) (i : Nat), i < l.length → nthD d (l ++ [x]) i = nthD d l i
  | [], _, _, h => absurd h (Nat.not_lt_zero _)
  | _ :: _, _, 0, _ => rfl
  | _ :: l, x, i + 1, h => lst_lt l x i (Nat.lt_of_succ_lt_succ h)
theorem lst_end {α : Type} {d : α} : ∀ (l : List α) (x : α), nthD d (l ++ [x]) l.length = x
  | [], _ => rfl
  | _ :: l, x => lst_end l x
theorem lst_take {α : Type} {d : α} : ∀ (l : List α) (m i : Nat), i < m → nthD d (l.take m) i = nthD d l i
  | [], m, i, _ => by cases m <;> rfl
  | _ :: _, 0, _, h => absurd h (Nat.not_lt_zero _)
  | _ :: _, _ + 1, 0, _ => rfl
  | _ :: l, m + 1, i + 1, h => lst_take l m i (Nat.lt_of_succ_lt_succ h)
theorem er_take {α : Type} : ∀ (l : List α) (i : Nat), i + 1 = l.length → l.eraseIdx i = l.take i
  | [], _, h => by cases h
  | [_], 0, _ => rfl
  | _ :: _ :: _, 0, h => by simp at h
  | a :: l, i + 1, h => by
    rw [List.eraseIdx_cons_succ, List.take_succ_cons, er_take l i (by simpa using h)]
theorem ofNat_nn {i : Nat} (hb : i < 2147483648) : ¬ (Int32.ofNat i < 0) := by
  rw [show (0 : Int32) = Int32.ofNat 0 from rfl, z_lt hb (by decide)]; omega
section
variable {c : cS}
theorem cisL_of {a k : Nat} (e : cCl c a = k) (hk : cak k = 9) : cisL c a = true := by unfold cisL; rw [e, hk]; rfl
theorem c_len (d : Nat) {a k : Nat} (e : cCl c a = k) (hk : cak k = 9) : cC (d + 9) 9103 [eR (.ref a)] c = some (.inl (some (eI (Int32.ofNat (cLs c a).length))), c) := by
  rw [pq_sz]; unfold clsz; rw [if_pos (cisL_of e hk)]; rfl
theorem c_get (d : Nat) {a k i : Nat} (e : cCl c a = k) (hk : cak k = 9) (hi : i < (cLs c a).length) (hb : i < 2147483648) : cC (d + 9) 9104 [eR (.ref a), eI (Int32.ofNat i)] c = some (.inl (some (eR (nthD .null (cLs c a) i))), c) := by
  rw [pq_get]; unfold clget
  have h : ¬ (Int32.ofNat i < 0 ∨ (cLs c a).length ≤ i) := by rintro (q | q); exact ofNat_nn hb q; omega
  simp only [z_nat hb, cisL_of e hk, h, not_false_eq_true, and_self, if_true]
  rfl
theorem cgrow_le {n m : Nat} (h : n ≤ m) : cgrow n ≤ 10 + 2 * m := by
  unfold cgrow
  split
  · omega
  · split <;> omega
/-- one list has another content -/
def LA (c : cS) (a : Nat) (l : List Value) (c' : cS) : Prop := (cNx c ≤ cNx c' ∧ cNx c' ≤ cNx c + 1 ∧ cSl c ≤ cSl c' ∧ cSl c' ≤ cSl c + 10 + 2 * (cLs c a).length) ∧ (cI c' = cI c ∧ cL c' = cL c ∧ cR c' = cR c ∧ cAI c' = cAI c ∧ cAL c' = cAL c ∧ cCl c' = cCl c ∧ cLen c' = cLen c) ∧ cLs c' a = l ∧ ∀ b, b ≠ a → cLs c' b = cLs c b
theorem LA_Ls (c : cS) (a : Nat) (l : List Value) : LA c a l (csLs c a l) := ⟨⟨Nat.le_refl _, Nat.le_succ _, Nat.le_refl _, by show cSl c ≤ _; omega⟩, ⟨rfl, rfl, rfl, rfl, rfl, rfl, rfl⟩, by rw [g_Ls_Ls, if_pos rfl], fun b hb => by rw [g_Ls_Ls, if_neg hb]⟩
theorem c_add (d : Nat) {a k : Nat} (e : cCl c a = k) (hk : cak k = 9) (hl : (cLs c a).length < 1000000) (v : Value) : ∃ c', cC (d + 9) 9105 [eR (.ref a), eR v] c = some (.inl (some (eI 1)), c') ∧ LA c a (cLs c a ++ [v]) c' := by
  rw [pq_add]; unfold cladd; rw [if_pos ⟨cisL_of e hk, hl⟩]
  by_cases q : (cLs c a).length < cCap c a
  · rw [if_pos q]
    exact ⟨_, rfl, LA_Ls _ _ _⟩
  · rw [if_neg q]
    refine ⟨_, rfl, ⟨by show cNx c ≤ cNx c + 1; omega, Nat.le_refl _, by show cSl c ≤ cSl c + _; omega, ?_⟩, ⟨rfl, rfl, rfl, rfl, rfl, rfl, rfl⟩, ?_, fun b hb => ?_⟩
    · have := cgrow_le (Nat.le_of_not_lt q)
      show cSl c + cgrow (cCap c a) ≤ _
      omega
    · show cLs (csLs c a (cLs c a ++ [v])) a = _
      rw [g_Ls_Ls, if_pos rfl]
    · show cLs (csLs c a (cLs c a ++ [v])) b = _
      rw [g_Ls_Ls, if_neg hb]
variable {c' : cS} {a : Nat} {l : List Value}
theorem LA_ch {k : Nat} (h : LA c a l c') (e : cCl c a = k) : CH [] [] [] [k] c c' := by
  obtain ⟨⟨h1, _⟩, ⟨e1, e2, e3, e4, e5, e6, e7⟩, _, h4⟩ := h
  refine ⟨h1, fun b _ => ⟨by rw [e6], by rw [e7]⟩, fun x b _ _ => by rw [e1], fun x b _ _ => by rw [e2], fun x b _ _ => by rw [e3], fun b hb _ => h4 b (by rintro rfl; exact hb (by rw [e]; simp)), fun b j _ => by rw [e5], fun q o y L hk z => by rw [e6] at hk ⊢; rw [e3] at z; exact q o y L hk z⟩
theorem LA_raw {k : Nat} (h : LA c a l c') (e : cCl c a = k) (hk : k ≠ 5890 ∧ k ≠ 5891) : ∀ b, raw c b → raw c' b := by
  obtain ⟨_, ⟨e1, e2, e3, e4, e5, e6, e7⟩, _, h4⟩ := h
  refine raw_eq (fun b _ => by rw [e6]) (fun x b _ _ => by rw [e3]) (fun b hb => h4 b ?_) (fun b x L hb hx hL => ?_)
  · rintro rfl
    rw [e] at hb
    rcases hb with q | q
    · exact hk.1 q
    · exact hk.2 q
  · rw [e6, hb] at hx
    omega
theorem LA_CLN {k : Nat} (h : LA c a l c') (e : cCl c a = k) (hk : k ≠ 0) (hn : CLN c) (hcap : ∀ b, cNx c' ≤ b → cCap c' b = cCap c b) (hAR : cAR c' = cAR c) : CLN c' := by
  obtain ⟨⟨h1, _⟩, ⟨e1, e2, e3, e4, e5, e6, e7⟩, _, h4⟩ := h
  intro b hb
  obtain ⟨q1, q2, q3, q4, q5, q6⟩ := hn b (Nat.le_trans h1 hb)
  have hba : b ≠ a := by rintro rfl; rw [q1] at e; exact hk e.symm
  exact ⟨by rw [e6]; exact q1, fun x hx => by rw [e1, e2, e3]; exact q2 x hx, fun j => by rw [e4, e5, hAR]; exact q3 j, by rw [h4 b hba]; exact q4, by rw [hcap b hb]; exact q5, by rw [e7]; exact q6⟩
end
section
variable {XI XL XR XC YI YL YA YB : List Nat} {r : Nat} {vo : Nat → Nat} {c c' : cS} {s s' : tS}
/-- the unit at hand, what can be seen, self, where the list is another -/
theorem RI_fr (h : CH XI XL XR XC c c') (ht : TH YI YL YA YB s s') (hS : RSt r c) (hV : RVt r vo c s) (hd : (dj [802, 803, 804] XR && dj [1700] XL && dj [5901, 5903] XC && dj [25, 35, 50, 64] YI && dj [37, 40, 51, 55] YA && dj [52] YB) = true) (hC : RIt r vo c s) :
    ((cok s' 64 59 ∧ cnt s' 64 < cnt s' 35 ∧ cR c' 803 r = .ref (lid c' (r + 8) (cnt s' 64))) ∧ (0 < cnt s' 25 ∧ cR c' 802 r = .ref (lid c' (r + 4) (cnt s' 25 - 1)) ∧ ca s' 37 (cnt s' 64) = cnt s' 25 - 1)) ∧
    (∀ v, v < cnt s 50 → nm (cL c 1700 (vo v)) (tB s 52 v) ∧ anc s 60 (cnt s 64) (ca s 51 v) → nm (cL c' 1700 (vo v)) (tB s' 52 v) ∧ anc s' 60 (cnt s' 64) (ca s' 51 v)) ∧
    (∃ q, q < cnt s' 35 ∧ tA s' 40 q = -1 ∧ anc s' 60 (cnt s' 64) q ∧ aok s' 55 q 499 ∧ ca s' 55 q < cnt s' 50 ∧ ca s' 51 (ca s' 55 q) = q ∧ cR c' 804 r = .ref (vo (ca s' 55 q)) ∧ CPr s q ∧ ca s' 55 q = ca s 55 q) := by
  simp only [Bool.and_eq_true] at hd
  obtain ⟨⟨⟨⟨⟨d1, d2⟩, d3⟩, d4⟩, d5⟩, d6⟩ := hd
  have nA : ∀ x, x ∈ [37, 40, 51, 55] → x ∉ YA := fun x hx => dj_not d5 hx
  have nI : ∀ x, x ∈ [25, 35, 50, 64] → cnt s' x = cnt s x := fun x hx => th_cnt ht (dj_not d4 hx)
  have nR : ∀ x, x ∈ [802, 803, 804] → cR c' x r = cR c x r := fun x hx => ch_R h hS.1 (by decide) (dj_not d1 hx)
  obtain ⟨q1, q2, _, q, q6, q7, q8, q9, q10, q11, q12, q13⟩ := hC
  rw [th_cok ht (dj_not d4 (x := 64) (by simp)), nI 64 (by simp), nI 25 (by simp), nI 35 (by simp), nI 50 (by simp), nR 802 (by simp), nR 803 (by simp), nR 804 (by simp), ch_lid h (RSt_uL hS) (by decide) (dj_not d3 (by simp)), ch_lid h (RSt_mL hS) (by decide) (dj_not d3 (by simp)), th_ca ht (nA 37 (by simp))]
  refine ⟨⟨q1, q2⟩, fun v hv z => ?_, q, q6, ?_⟩
  · rw [ch_L h (hV.2.1 _ hv).1 (by decide) (dj_not d2 (by simp)), th_B ht (dj_not d6 (by simp)), anc_fr ht (nA 40 (by simp)), th_ca ht (nA 51 (by simp))]
    exact z
  · rw [th_A ht (nA 40 (by simp)), anc_fr ht (nA 40 (by simp)), th_aok ht (nA 55 (by simp)), th_ca ht (nA 55 (by simp)), th_ca ht (nA 51 (by simp))]
    exact ⟨q7, q8, q9, q10, q11, q12, q13, rfl⟩
end
section
variable {χ : Nat → Int32} {n t r p f : Nat} {vo : Nat → Nat} {Op Oa Ou : Nat → Prop} {E O : Nat} {c : cS} {s : tS}
/-- a variable can be seen from here -/
def shT (s : tS) (v : Nat) : tS := tsI (tsA s 57 (cnt s 56) (Int32.ofNat v)) 56 (tI s 56 + 1)
theorem P_show (d : Nat) {v : Nat} (h : RP χ n t r p f vo Op Oa Ou E O c s) (h12 : cnt s 56 < 12) (hv : v < cnt s 50) (hanc : anc s 60 (cnt s 64) (ca s 51 v)) (hnm : nm (cL c 1700 (vo v)) (tB s 52 v)) :
    ∃ c', cC (d + 9) 9105 [eR (.ref (r + 15)), eR (.ref (vo v))] c = some (.inl (some (eI 1)), c') ∧ LA c (r + 15) (cLs c (r + 15) ++ [.ref (vo v)]) c' ∧ RP χ n t r p f vo Op Oa Ou E O c' (shT s v) ∧ KC r c c' ∧ KT s (shT s v) ∧ cnt (shT s v) 56 = cnt s 56 + 1 ∧ cSl c' ≤ cSl c + 40 := by
  obtain ⟨hL, hfi, hn, hQ, hN, hOu, hOp, hOa, hOu2⟩ := h
  obtain ⟨hS, hC, hG, hLm, hM, hU, hV, hI, hF, hA, hB⟩ := hQ
  have hvL := RSt_vL hS
  have hI0 := hI
  obtain ⟨i1, i2, ⟨i3, i4, i5⟩, i6⟩ := hI
  obtain ⟨c', e1, hLA⟩ := c_add d hvL rfl (by rw [i4]; omega) (.ref (vo v))
  have hch := LA_ch hLA hvL
  have hth : TH [56] [] [57] [] s (shT s v) := TH_I (by simp) (TH_A (by simp) (TH_refl _ _ _ _ s))
  have e56 : tI (shT s v) 56 = Int32.ofNat (cnt s 56 + 1) := (cnt_up i3 (by decide)).2
  have c56 := cnt_of e56 (by omega)
  have e57 : tA (shT s v) 57 (cnt s 56) = Int32.ofNat v := by
    show tA (tsA s 57 (cnt s 56) (Int32.ofNat v)) 57 (cnt s 56) = _
    rw [t_A_A, if_pos ⟨rfl, rfl⟩]
  have o57 : ∀ i, i ≠ cnt s 56 → tA (shT s v) 57 i = tA s 57 i := fun i hi => by
    show tA (tsA s 57 (cnt s 56) (Int32.ofNat v)) 57 i = _
    rw [t_A_A, if_neg (fun q => hi q.2)]
  have h500 := hV.1.2
  have hsl : cSl c' ≤ cSl c + 40 := by have := hLA.1.2.2.2; rw [i4] at this; omega
  have hKC : KC r c c' := KC_of hch hS hLA.1.2.2.1 (by decide)
  have hKT : KT s (shT s v) := KT_of hth (by decide)
  obtain ⟨w1, w2, q, y1, y2, y3, y4, y5, y6, y7, y8, y9⟩ := RI_fr hch hth hS hV (by decide) hI0
  have hCP : CPr (shT s v) q := by
    intro k hk ha i hi
    rw [th_cnt hth (by decide)] at hk
    rw [anc_fr hth (by decide), th_cnt hth (by decide)] at ha
    rw [th_ca hth (by decide)] at hi
    rw [y9, c56, th_ca hth (x := 45) (by decide)]
    rcases y8 k hk ha i hi with ⟨j, j1, j2⟩ | w
    · exact Or.inl ⟨j, by omega, by rw [ca_eq (o57 j (by omega))]; exact j2⟩
    · exact Or.inr w
  refine ⟨c', e1, hLA, ⟨LX_ch hch hth (by rw [hLA.2.1.2.2.2.1]) (by rw [hLA.2.1.2.2.2.2.1]) (by decide) hL, hfi, cC_cln e1 hn, ⟨RSt_fr hch (by decide) hS, RCt_fr hch hth hS (by decide) hC, RGt_fr hch hth hS (by decide) hG, RLt_fr hch hth hS (by decide) hLm, RMt_fr hch hth hS (by decide) (by decide) hM, RUt_fr hch hth hS (by decide) (by decide) hU, RVt_fr hch hth hS hU (by decide) hV, ⟨w1.1, w1.2, ⟨cok_of e56 (by omega) (by omega), ?_, fun i hi => ?_⟩, q, y1, y2, y3, y4, y5, y6, y7, hCP⟩, RFt_fr hch hth hS hU (by decide) hF, RAt_fr hch hth hS (by decide) hA, ?_⟩, RNt_fr hth (by decide) hN, hOu, hOp, hOa, hOu2⟩, hKC, hKT, c56, hsl⟩
  · rw [hLA.2.2.1, c56, List.length_append, i4]; rfl
  · rw [c56] at hi
    rw [hLA.2.2.1]
    by_cases q : i = cnt s 56
    · have hca : ca (shT s v) 57 i = v := by rw [q]; exact ca_of e57 (by omega)
      rw [hca]
      refine ⟨by rw [q]; exact aok_of e57 (by omega) (by omega), by rw [th_cnt hth (by decide)]; exact hv, ?_, (w2 v hv ⟨hnm, hanc⟩).1, (w2 v hv ⟨hnm, hanc⟩).2⟩
      rw [q, ← i4, lst_end]
    · obtain ⟨g1, g2, g3, g4, g5⟩ := i5 i (by omega)
      rw [aok_eq (o57 i q), ca_eq (o57 i q)]
      refine ⟨g1, by rw [th_cnt hth (by decide)]; exact g2, ?_, (w2 _ g2 ⟨g4, g5⟩).1, (w2 _ g2 ⟨g4, g5⟩).2⟩
      rw [lst_lt _ _ _ (by rw [i4]; omega)]; exact g3
  · exact RBt_mono hKC hKT hU.2.1.1 (fun v hv => (hV.2.1 v hv).2.2.1) (th_cnt hth (by decide)) (by rw [th_cnt hth (by decide)]; exact Nat.le_refl _) (fun k hk _ => by rw [hLA.2.1.2.2.1]) (fun k _ _ => th_A hth (by decide) k) (fun y _ _ z hz => th_A hth (by simp only [List.mem_cons, List.not_mem_nil, or_false] at hz ⊢; omega) y) hB
/-- the component takes the last ones away -/
theorem c_hide (d : Nat) : ∀ (k m : Nat) (c : cS), RSt r c → (cLs c (r + 15)).length = m + k → m + k < 1000 → ∃ c', fX8_hide (cC (d + 9)) (.ref r) (Int32.ofNat m) c = some (.inl none, c') ∧ LA c (r + 15) ((cLs c (r + 15)).take m) c' ∧ cNx c' = cNx c ∧ cSl c' = cSl c ∧ cCap c' = cCap c ∧ cAR c' = cAR c := by
  intro k
  induction k with
  | zero =>
    intro m c hS hl hb
    refine ⟨c, ?_, ⟨⟨Nat.le_refl _, Nat.le_succ _, Nat.le_refl _, by omega⟩, ⟨rfl, rfl, rfl, rfl, rfl, rfl, rfl⟩, by rw [List.take_of_length_le (by omega)], fun _ _ => rfl⟩, rfl, rfl, rfl, rfl⟩
    rw [uX8_hide, r_cgR, if_pos hS.1, hS.2.2.2.1, c_len d (RSt_vL hS) rfl, b_I, hl]
    simp only [z_lt (show m < 2147483648 by omega) (show m + 0 < 2147483648 by omega), show ¬ m < m + 0 by omega, if_false]
  | succ k ih =>
    intro m c hS hl hb
    have hvL := RSt_vL hS
    have e1 : cC (d + 9) 9107 [eR (.ref (r + 15)), eI (Int32.ofNat (m + k))] c = some (.inl (some (eR (nthD .null (cLs c (r + 15)) (m + k)))), csLs c (r + 15) ((cLs c (r + 15)).take (m + k))) := by
      rw [pq_rem]; unfold clrem
      have h : ¬ (Int32.ofNat (m + k) < 0 ∨ (cLs c (r + 15)).length ≤ m + k) := by rintro (q | q); exact ofNat_nn (by omega) q; omega
      simp only [z_nat (show m + k < 2147483648 by omega), cisL_of hvL rfl, h, not_false_eq_true, and_self, if_true, er_take _ (m + k) (by omega : m + k + 1 = (cLs c (r + 15)).length)]
      rfl
    have hS2 : RSt r (csLs c (r + 15) ((cLs c (r + 15)).take (m + k))) := RSt_fr (CH_Ls (XI := []) (XL := []) (XR := []) (XC := [5805]) (Or.inl (by rw [hvL]; simp)) (CH_refl _ _ _ _ c)) (by decide) hS
    have hl2 : cLs (csLs c (r + 15) ((cLs c (r + 15)).take (m + k))) (r + 15) = (cLs c (r + 15)).take (m + k) := by rw [g_Ls_Ls, if_pos rfl]
    obtain ⟨c', g1, ⟨⟨a1, a2, a3, a4⟩, b1, b2, b3⟩, g3, g4, g5, g6⟩ := ih m _ hS2 (by rw [hl2, List.length_take]; omega) (by omega)
    refine ⟨c', ?_, ⟨⟨a1, a2, a3, by rw [hl2, List.length_take] at a4; rw [show cSl (csLs c (r + 15) ((cLs c (r + 15)).take (m + k))) = cSl c from rfl] at a4; omega⟩, b1, ?_, fun b hb' => ?_⟩, g3, g4, g5, g6⟩
    · rw [uX8_hide, r_cgR, if_pos hS.1, hS.2.2.2.1, c_len d hvL rfl, b_I, hl]
      simp only [z_lt (show m < 2147483648 by omega) (show m + (k + 1) < 2147483648 by omega), show m < m + (k + 1) by omega, if_true]
      rw [r_cgR, if_pos hS.1, hS.2.2.2.1, r_cgR, if_pos hS.1, hS.2.2.2.1, c_len d hvL rfl, b_I, hl, show (1 : Int32) = Int32.ofNat 1 from rfl, z_sub (by omega), show m + (k + 1) - 1 = m + k by omega, e1, b_R, g1]
    · rw [b2, hl2, List.take_take, Nat.min_eq_left (by omega)]
    · rw [b3 b hb', g_Ls_Ls, if_neg hb']
theorem P_hide (d : Nat) {m : Nat} (h : RP χ n t r p f vo Op Oa Ou E O c s) (hm : m ≤ cnt s 56) (hloc : ∀ i, m ≤ i → i < cnt s 56 → cnt s 64 ≤ ca s 51 (ca s 57 i)) :
    ∃ c', cC (d + 10) 820 [eR (.ref r), eI (Int32.ofNat m)] c = some (.inl none, c') ∧ RP χ n t r p f vo Op Oa Ou E O c' (tsI s 56 (Int32.ofNat m)) ∧ KC r c c' ∧ KT s (tsI s 56 (Int32.ofNat m)) ∧ cnt (tsI s 56 (Int32.ofNat m)) 56 = m ∧ cNx c' = cNx c ∧ cSl c' = cSl c ∧ (∀ b, raw c b → raw c' b) ∧ cI c' = cI c ∧ cR c' = cR c ∧ cL c' = cL c ∧ (∀ b, b ≠ r + 15 → cLs c' b = cLs c b) ∧ cCl c' = cCl c := by
  obtain ⟨hL, hfi, hn, hQ, hN, hOu, hOp, hOa, hOu2⟩ := h
  obtain ⟨hS, hC, hG, hLm, hM, hU, hV, hI, hF, hA, hB⟩ := hQ
  have hvL := RSt_vL hS
  have hI0 := hI
  obtain ⟨i1, i2, ⟨i3, i4, i5⟩, i6⟩ := hI
  have h12 := i3.2
  obtain ⟨c', e1, hLA, g3, g4, g5, g6⟩ := c_hide (r := r) d (cnt s 56 - m) m c hS (by rw [i4]; omega) (by omega)
  have e1' : cC (d + 10) 820 [eR (.ref r), eI (Int32.ofNat m)] c = some (.inl none, c') := by
    rw [kX8_hide, r_cck, if_pos hS.1, e1]
  have hch := LA_ch hLA hvL
  have hth : TH [56] [] [] [] s (tsI s 56 (Int32.ofNat m)) := TH_I (by simp) (TH_refl _ _ _ _ s)
  have e56 : tI (tsI s 56 (Int32.ofNat m)) 56 = Int32.ofNat m := by rw [t_I_I, if_pos rfl]
  have c56 := cnt_of e56 (by omega)
  have hKC : KC r c c' := KC_of hch hS hLA.1.2.2.1 (by decide)
  have hKT : KT s (tsI s 56 (Int32.ofNat m)) := KT_of hth (by decide)
  obtain ⟨w1, w2, q, y1, y2, y3, y4, y5, y6, y7, y8, y9⟩ := RI_fr hch hth hS hV (by decide) hI0
  have hCP : CPr (tsI s 56 (Int32.ofNat m)) q := by
    intro k hk ha i hi
    rw [th_cnt hth (by decide)] at hk
    rw [anc_fr hth (by decide), th_cnt hth (by decide)] at ha
    rw [th_ca hth (by decide)] at hi
    rw [y9, c56, th_ca hth (x := 45) (by decide)]
    rcases y8 k hk ha i hi with ⟨j, j1, j2⟩ | w
    · by_cases hj : j < m
      · exact Or.inl ⟨j, hj, by rw [th_ca hth (by decide)]; exact j2⟩
      · exfalso
        have e1 := cap_lt hU hV (k + 1) k (by omega) hk i hi
        have e2 := anc_le hU _ _ _ i1.2.1 ha
        have e3 := hloc j (by omega) j1
        rw [j2] at e1
        omega
    · exact Or.inr w
  refine ⟨c', e1', ⟨LX_ch hch hth (by rw [hLA.2.1.2.2.2.1]) (by rw [hLA.2.1.2.2.2.2.1]) (by decide) hL, hfi, cC_cln e1' hn, ⟨RSt_fr hch (by decide) hS, RCt_fr hch hth hS (by decide) hC, RGt_fr hch hth hS (by decide) hG, RLt_fr hch hth hS (by decide) hLm, RMt_fr hch hth hS (by decide) (by decide) hM, RUt_fr hch hth hS (by decide) (by decide) hU, RVt_fr hch hth hS hU (by decide) hV, ⟨w1.1, w1.2, ⟨cok_of e56 (by omega) (by omega), ?_, fun i hi => ?_⟩, q, y1, y2, y3, y4, y5, y6, y7, hCP⟩, RFt_fr hch hth hS hU (by decide) hF, RAt_fr hch hth hS (by decide) hA, ?_⟩, RNt_fr hth (by decide) hN, hOu, hOp, hOa, hOu2⟩, hKC, hKT, c56, g3, g4, LA_raw hLA hvL (by decide), hLA.2.1.1, hLA.2.1.2.2.1, hLA.2.1.2.1, hLA.2.2.2, hLA.2.1.2.2.2.2.2.1⟩
  · rw [hLA.2.2.1, c56, List.length_take, i4]; omega
  · rw [c56] at hi
    rw [hLA.2.2.1]
    obtain ⟨g1, g2, g3', g4', g5'⟩ := i5 i (by omega)
    refine ⟨g1, g2, ?_, (w2 _ g2 ⟨g4', g5'⟩).1, (w2 _ g2 ⟨g4', g5'⟩).2⟩
    rw [lst_take _ _ _ hi]; exact g3'
  · exact RBt_mono hKC hKT hU.2.1.1 (fun v hv => (hV.2.1 v hv).2.2.1) rfl (Nat.le_refl _) (fun k hk _ => by rw [hLA.2.1.2.2.1]) (fun k _ _ => rfl) (fun y _ _ z hz => rfl) hB
end
