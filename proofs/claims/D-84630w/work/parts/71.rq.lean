set_option maxRecDepth 100000
set_option maxHeartbeats 2000000
/-! D21: the whole relation -/
def RQ (r : Nat) (vo : Nat → Nat) (Op Oa Ou : Nat → Prop) (E x : Nat) (c : cS) (s : tS) : Prop := RSt r c ∧ RCt r c s ∧ RGt r c s ∧ RLt r c s ∧ RMt r x c s ∧ RUt r c s ∧ RVt r vo c s ∧ RIt r vo c s ∧ RFt r Op c s ∧ RAt r Oa c s ∧ RBt r Ou E c s
theorem dj_sub {a a' X : List Nat} (h : ∀ x ∈ a', x ∈ a) (hd : dj a X = true) : dj a' X = true := by
  unfold dj at hd ⊢
  rw [List.all_eq_true] at hd ⊢
  exact fun x hx => hd x (h x hx)
def qI : List Nat := [806, 908, 1201, 1500, 1506, 1600, 1601, 1602, 1607, 1608, 1610, 1703, 1612, 1613, 1615, 1616, 2900, 2901, 2500, 2501, 3001, 3102, 3300]
def qL : List Nat := [1400, 1501, 1606, 1700, 3002]
def qR : List Nat := fR ++ [802, 803, 804, 1611]
def qC : List Nat := [5900, 5901, 5903, 5904, 5905, 5906, 5907, 5805, 6301, 7300, 6505, 6507, 6605, 6614, 6617, 5890, 5891]
def qYI : List Nat := [20, 22, 25, 35, 48, 50, 56, 58, 60, 62, 63, 64, 65]
def qYA : List Nat := [18, 19, 23, 27, 28, 30, 31, 36, 37, 38, 39, 40, 41, 42, 44, 45, 46, 51, 53, 54, 55, 57, 59, 66, 67, 68, 69, 70, 71, 72, 136]
def qYB : List Nat := [17, 24, 26, 29, 43, 49, 52, 61]
section
variable {XI XL XR XC YI YL YA YB : List Nat} {c c' : cS} {s s' : tS} {r : Nat} {vo : Nat → Nat}
theorem KC_of (h : CH XI XL XR XC c c') (hS : RSt r c) (hsl : cSl c ≤ cSl c') (hd : (dj (1612 :: fI) XI && dj fL XL && dj fR XR && dj [5890, 5891, 5903, 6617, 5905] XC) = true) : KC r c c' := by
  simp only [Bool.and_eq_true] at hd
  obtain ⟨⟨⟨d1, d2⟩, d3⟩, d4⟩ := hd
  have h0 := h
  obtain ⟨h1, h2, h3, h4, h5, h6, h7, h8⟩ := h
  refine ⟨h1, hsl, h2, fun x a hx ha => h3 x a (dj_not d1 (List.mem_cons_of_mem _ hx)) ha, fun x a hx ha => h4 x a (dj_not d2 hx) ha, fun x a hx ha _ => h5 x a (dj_not d3 hx) ha, fun a ha _ => ?_, ⟨h7, fun a i e q => by rcases e with e | e <;> (rw [ch_Ls h0 e (by decide) (dj_not d4 (by simp))]; exact ⟨q, fun _ => rfl⟩), fun a e q => by rw [ch_I h0 e (by decide) (dj_not d1 (by simp))]; exact q⟩, fun k hk => ch_lid h0 (RSt_uL hS) (by decide) (dj_not d4 (by simp)) k⟩
  rcases ha with e | e
  · exact ch_Ls h0 e (by decide) (dj_not d4 (by simp))
  · exact ch_Ls h0 e (by decide) (dj_not d4 (by simp))
theorem KT_of (h : TH YI YL YA YB s s') (hd : (dj [25, 35, 48, 50, 58, 60, 65] YI && dj [36, 39, 40, 42, 44, 45, 51, 53, 54, 136] YA && dj [52, 61] YB) = true) : KT s s' := by
  simp only [Bool.and_eq_true] at hd
  obtain ⟨⟨d1, d2⟩, d3⟩ := hd
  refine ⟨fun x hx => by rw [th_cnt h (dj_not d1 hx)]; exact Nat.le_refl _, fun k _ => ⟨th_A h (dj_not d2 (by simp)) k, fun _ => th_A h (dj_not d2 (by simp)) k, th_A h (dj_not d2 (by simp)) k, by rw [th_ca h (dj_not d2 (by simp))]; exact Nat.le_refl _, fun i _ => th_A h (dj_not d2 (by simp)) _⟩, fun v _ => ⟨th_A h (dj_not d2 (by simp)) v, vI_fr h (by
    simp only [dj, List.all_cons, List.all_nil, Bool.and_true, Bool.and_eq_true] at d2 ⊢
    exact ⟨d2.1, d2.2.1, d2.2.2.2.2.2.2.1, d2.2.2.2.2.2.2.2.1, d2.2.2.2.2.2.2.2.2.1⟩) v, th_A h (dj_not d2 (by simp)) v, th_B h (dj_not d3 (by simp)) v⟩, fun k _ => th_B h (dj_not d3 (by simp)) k, fun k _ => th_A h (dj_not d2 (by simp)) k⟩
theorem RBt_fr {Ou : Nat → Prop} {E : Nat} (h : CH XI XL XR XC c c') (ht : TH YI YL YA YB s s') (hS : RSt r c) (hU : RUt r c s) (hV : RVt r vo c s) (hsl : cSl c ≤ cSl c') (hd : (dj qI XI && dj qL XL && dj qR XR && dj qC XC && dj qYI YI && dj qYA YA && dj qYB YB) = true) (hC : RBt r Ou E c s) : RBt r Ou E c' s' := by
  simp only [Bool.and_eq_true] at hd
  obtain ⟨⟨⟨⟨⟨⟨d1, d2⟩, d3⟩, d4⟩, d5⟩, d6⟩, d7⟩ := hd
  refine RBt_mono (KC_of h hS hsl ?_) (KT_of ht ?_) hU.2.1.1 (fun v hv => (hV.2.1 v hv).2.2.1) (th_cnt ht (dj_not d5 (by decide))) ?_ (fun k hk _ => ch_R h (RUt_cap hU hk).2.2.2 (by decide) (dj_not d3 (by decide))) (fun k _ _ => th_A ht (dj_not d6 (by decide)) k) (fun y _ _ z hz => th_A ht (dj_not d6 (by simp only [List.mem_cons, List.not_mem_nil, or_false] at hz; rcases hz with e | e | e | e | e | e | e <;> rw [e] <;> decide)) y) hC
  · simp only [Bool.and_eq_true]
    exact ⟨⟨⟨dj_sub (by decide) d1, dj_sub (by decide) d2⟩, dj_sub (by decide) d3⟩, dj_sub (by decide) d4⟩
  · simp only [Bool.and_eq_true]
    exact ⟨⟨dj_sub (by decide) d5, dj_sub (by decide) d6⟩, dj_sub (by decide) d7⟩
  · rw [th_cnt ht (dj_not d5 (by decide))]; exact Nat.le_refl _
theorem RQ_fr {Op Oa Ou : Nat → Prop} {E x : Nat} (h : CH XI XL XR XC c c') (ht : TH YI YL YA YB s s') (hsl : cSl c ≤ cSl c') (hd : (dj qI XI && dj qL XL && dj qR XR && dj qC XC && dj qYI YI && dj qYA YA && dj qYB YB) = true) (hQ : RQ r vo Op Oa Ou E x c s) : RQ r vo Op Oa Ou E x c' s' := by
  have hd0 := hd
  simp only [Bool.and_eq_true] at hd
  obtain ⟨⟨⟨⟨⟨⟨d1, d2⟩, d3⟩, d4⟩, d5⟩, d6⟩, d7⟩ := hd
  obtain ⟨hS, hC, hG, hL, hM, hU, hV, hI, hF, hA, hB⟩ := hQ
  refine ⟨RSt_fr h (dj_sub (by decide) d3) hS, RCt_fr h ht hS ?_ hC, RGt_fr h ht hS ?_ hG, RLt_fr h ht hS ?_ hL, RMt_fr h ht hS ?_ (dj_not d5 (by decide)) hM, RUt_fr h ht hS ?_ (dj_not d5 (by decide)) hU, RVt_fr h ht hS hU ?_ hV, RIt_fr h ht hS hV ?_ hI, RFt_fr h ht hS hU ?_ hF, RAt_fr h ht hS ?_ hA, RBt_fr h ht hS hU hV hsl hd0 hB⟩
  · simp only [Bool.and_eq_true]
    exact ⟨⟨⟨⟨dj_sub (by decide) d1, dj_sub (by decide) d4⟩, dj_sub (by decide) d5⟩, dj_sub (by decide) d6⟩, dj_sub (by decide) d7⟩
  · simp only [Bool.and_eq_true]
    exact ⟨⟨⟨⟨⟨⟨dj_sub (by decide) d1, dj_sub (by decide) d3⟩, dj_sub (by decide) d2⟩, dj_sub (by decide) d4⟩, dj_sub (by decide) d5⟩, dj_sub (by decide) d6⟩, dj_sub (by decide) d7⟩
  · simp only [Bool.and_eq_true]
    exact ⟨⟨⟨⟨⟨⟨dj_sub (by decide) d1, dj_sub (by decide) d3⟩, dj_sub (by decide) d2⟩, dj_sub (by decide) d4⟩, dj_sub (by decide) d5⟩, dj_sub (by decide) d6⟩, dj_sub (by decide) d7⟩
  · simp only [Bool.and_eq_true]
    exact ⟨⟨⟨⟨⟨⟨dj_sub (by decide) d1, dj_sub (by decide) d2⟩, dj_sub (by decide) d3⟩, dj_sub (by decide) d4⟩, dj_sub (by decide) d5⟩, dj_sub (by decide) d6⟩, dj_sub (by decide) d7⟩
  · simp only [Bool.and_eq_true]
    exact ⟨⟨⟨⟨⟨⟨dj_sub (by decide) d1, dj_sub (by decide) d2⟩, dj_sub (by decide) d3⟩, dj_sub (by decide) d4⟩, dj_sub (by decide) d5⟩, dj_sub (by decide) d6⟩, dj_sub (by decide) d7⟩
  · simp only [Bool.and_eq_true]
    exact ⟨⟨⟨⟨dj_sub (by decide) d1, dj_sub (by decide) d3⟩, dj_sub (by decide) d4⟩, dj_sub (by decide) d5⟩, dj_sub (by decide) d6⟩
  · simp only [Bool.and_eq_true]
    exact ⟨⟨⟨⟨⟨dj_sub (by decide) d3, dj_sub (by decide) d2⟩, dj_sub (by decide) d4⟩, dj_sub (by decide) d5⟩, dj_sub (by decide) d6⟩, dj_sub (by decide) d7⟩
  · simp only [Bool.and_eq_true]
    exact ⟨⟨⟨⟨⟨⟨dj_sub (by decide) d1, dj_sub (by decide) d2⟩, dj_sub (by decide) d3⟩, dj_sub (by decide) d4⟩, dj_sub (by decide) d5⟩, dj_sub (by decide) d6⟩, dj_sub (by decide) d7⟩
  · simp only [Bool.and_eq_true]
    exact ⟨⟨⟨⟨⟨⟨dj_sub (by decide) d1, dj_sub (by decide) d2⟩, dj_sub (by decide) d3⟩, dj_sub (by decide) d4⟩, dj_sub (by decide) d5⟩, dj_sub (by decide) d6⟩, dj_sub (by decide) d7⟩
theorem CH_of_LF {st : Nat} (hl : LFc st c c') (hn : CLN c) (hst : cCl c st ≠ 6200) : CH [1003, 1004, 1005, 1006] [1007] [1008] [] c c' := by
  obtain ⟨c1, c2, c3, c4, c5, c6, c7, c8, c9, c10, c11, c12, c13, c14, c15⟩ := hl
  have hlt : ∀ a, cCl c a ≠ 0 → a < cNx c := fun a ha => Nat.lt_of_not_le (fun q => ha (hn a q).1)
  refine ⟨c1, fun a ha => ⟨(c14 a (hlt a ha)).2.1, (c14 a (hlt a ha)).1⟩, fun x a hx ha => ?_, fun x a hx _ => c7 x a (by simpa using hx), fun x a hx ha => ?_, fun a _ _ => by rw [c12], fun a j ha => (c14 a (hlt a (by rw [ha]; decide))).2.2 (fun e => hst (by rw [← e]; exact ha)) j, fun hb a x L hk e => ?_⟩
  · by_cases e : x = 1201
    · rw [e]; exact c6 a (hlt a ha.1)
    · refine c5 x a ?_
      simp only [List.mem_cons, List.not_mem_nil, or_false, not_or] at hx ⊢
      omega
  · by_cases e : x = 1200
    · rw [e]; exact c9 a (hlt a ha.1)
    · exact c8 x a (by simpa using hx) e
  · have hx : x = 2700 ∨ x = 3003 ∨ x = 3201 := by unfold bdx at hk; omega
    rw [c8 x a (by omega) (by omega)] at e
    by_cases q : a < cNx c
    · rw [(c14 a q).2.1] at hk
      have hL := hb a x L hk e
      rw [(c14 L (hlt L hL)).2.1]
      exact hL
    · rw [((hn a (by omega)).2.1 x (by omega)).2.2] at e
      cases e
theorem TH_of_LF (hl : LFt s s') : TH [8, 9, 10, 11, 14, 15] [12] [] [13] s s' := by
  obtain ⟨t1, t2, t3, t4⟩ := hl
  exact ⟨t1, fun x hx => t2 x (by simpa using hx), fun x j _ => by rw [t3], fun x j hx => t4 x j (by simpa using hx)⟩
end
/-! the reader's state at an E: p behind the word at hand, f its begin; Op, Oa, Ou: nodes, askings, units that are open; E: weights elsewhere; O: lets that are open -/
def RP (χ : Nat → Int32) (n t r p f : Nat) (vo : Nat → Nat) (Op Oa Ou : Nat → Prop) (E O : Nat) (c : cS) (s : tS) : Prop := LX χ n (r + 16) t 4 (r + 19) (r + 17) p f c s ∧ tI s 6 = 0 ∧ CLN c ∧ RQ r vo Op Oa Ou E 1 c s ∧ RNt O f s ∧ Ou (cnt s 64) ∧ (∀ y, Op y → Ou (ca s 67 y) ∧ y < cnt s 65) ∧ (∀ k, Oa k → k < cnt s 48) ∧ (∀ k, Ou k → k < cnt s 35)
/-- what a step leaves: growth, nodes below, room -/
def ST (n r p : Nat) (c : cS) (s : tS) (p' : Nat) (c' : cS) (s' : tS) : Prop := KC r c c' ∧ KT s s' ∧ (∀ y, y < cnt s 65 → ∀ z, z ∈ [66, 67, 68, 69, 70, 71, 72] → tA s' z y = tA s z y) ∧ cNx c' + 300 * (n - p') ≤ cNx c + 300 * (n - p) ∧ cSl c' + 2000 * (n - p') ≤ cSl c + 2000 * (n - p) ∧ p ≤ p' ∧ (∀ a, raw c a → raw c' a)
theorem raw_eq {c c' : cS} (h1 : ∀ a, cCl c a ≠ 0 → cCl c' a = cCl c a) (h2 : ∀ x a, x ∈ [3301, 3100, 3000, 2000, 2700, 3003, 3201] → cCl c a ≠ 0 → cR c' x a = cR c x a) (h3 : ∀ a, cCl c a = 5890 ∨ cCl c a = 5891 → cLs c' a = cLs c a) (h4 : ∀ a x L, cCl c a = 0 → (x = 2700 ∧ cCl c' a = 27) ∨ (x = 3003 ∧ cCl c' a = 30) ∨ (x = 3201 ∧ cCl c' a = 32) → cCl c L ≠ 0 → cR c' x a ≠ .ref L) : ∀ b, raw c b → raw c' b := by
  intro b q
  rcases q with q | ⟨q1, q2, q3⟩
  · left
    have hn : cCl c b.1 ≠ 0 := by rcases q with q | q | q | q <;> rw [q.1] <;> decide
    unfold raw0 at q ⊢
    rw [h1 _ hn, h2 3301 _ (by simp) hn, h2 3100 _ (by simp) hn, h2 3000 _ (by simp) hn, h2 2000 _ (by simp) hn]
    exact q
  · right
    have hn : cCl c b.1 ≠ 0 := by rcases q1 with w | w <;> rw [w] <;> decide
    refine ⟨by rw [h1 _ hn]; exact q1, by rw [h3 _ q1]; exact q2, fun a => ?_⟩
    by_cases ha : cCl c a = 0
    · exact ⟨fun w => h4 a 2700 _ ha (Or.inl ⟨rfl, w⟩) hn, fun w _ => h4 a 3003 _ ha (Or.inr (Or.inl ⟨rfl, w⟩)) hn, fun w => h4 a 3201 _ ha (Or.inr (Or.inr ⟨rfl, w⟩)) hn⟩
    · have u := q3 a
      rw [h1 a ha, h2 2700 a (by simp) ha, h2 3000 a (by simp) ha, h2 3003 a (by simp) ha, h2 3201 a (by simp) ha]
      exact u
theorem raw_LF {st : Nat} {c c' : cS} (hl : LFc st c c') (hn : CLN c) : ∀ a, raw c a → raw c' a := by
  obtain ⟨c1, c2, c3, c4, c5, c6, c7, c8, c9, c10, c11, c12, c13, c14, c15⟩ := hl
  have hlt : ∀ a, cCl c a ≠ 0 → a < cNx c := fun a ha => Nat.lt_of_not_le (fun q => ha (hn a q).1)
  refine raw_eq (fun a ha => (c14 a (hlt a ha)).2.1) (fun x a hx _ => ?_) (fun a _ => by rw [c12]) (fun a x L ha hx hL => ?_)
  · simp only [List.mem_cons, List.not_mem_nil, or_false] at hx
    exact c8 x a (by omega) (by omega)
  · by_cases q : a < cNx c
    · have e := (c14 a q).2.1
      rw [ha] at e
      rw [e] at hx
      omega
    · rw [c8 x a (by omega) (by omega), ((hn a (by omega)).2.1 x (by omega)).2.2]
      simp
