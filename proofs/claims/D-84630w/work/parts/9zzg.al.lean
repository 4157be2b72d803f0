set_option maxRecDepth 100000
set_option maxHeartbeats 4000000
/-! D107: all E's, by levels -/
section
variable {χ : Nat → Int32} {n t r : Nat} {Oa Ou : Nat → Prop} {O : Nat}
theorem H_let (dc dt : Nat) {H D lv : Nat} (hn13 : n ≤ 1280) (hH : 1 ≤ H) (hO : O + 4 ≤ 4 * lv) (hsub1 : SP χ n t r Oa Ou (O + 2) lv H D (dc + 32) 813 (dt + 31) 40) (hsub2 : SP χ n t r Oa Ou O lv H D (dc + 32) 813 (dt + 30) 40) (vo : Nat → Nat) (Op : Nat → Prop) (E p f : Nat) (c : cS) (s : tS) (hlv : cnt s 63 = lv) (hR : RP χ n t r p f vo Op Oa Ou E O c s) (h8 : tI s 8 = 2) (h11 : tI s 11 = 3) :
    PX χ n t r f p vo Op Oa Ou E O c s H D (cC (dc + 33) 817 [eR (.ref r)] c) (cT (dt + 33) 44 [eR (.ref 0)] s) := by
  have h := S_let (dc + 2) (dt + 1) hn13 hH hO hsub1 hsub2 vo Op E p f c s hlv hR h8 h11
  rw [kX7_wholeE, uX7_wholeE]
  simp only [t_isKey, hR.2.1, h8, h11, true_and, and_true, decide_true, bi_t, e10, if_false, b_I]
  exact PX_idT h
theorem H_try (dc dt : Nat) {H D D1 lv : Nat} (hn13 : n ≤ 1280) (hH : 1 ≤ H) (hD : D1 + 1 ≤ D) (hO : O + 4 ≤ 4 * lv) (hsub1 : SP χ n t r Oa Ou O lv H D1 (dc + 32) 813 (dt + 31) 40) (hsub2 : SP χ n t r Oa Ou O lv H D (dc + 32) 813 (dt + 30) 40) (vo : Nat → Nat) (Op : Nat → Prop) (E p f : Nat) (c : cS) (s : tS) (hlv : cnt s 63 = lv) (hR : RP χ n t r p f vo Op Oa Ou E O c s) (h8 : tI s 8 = 2) (h11 : tI s 11 = 8) :
    PX χ n t r f p vo Op Oa Ou E O c s H D (cC (dc + 33) 822 [eR (.ref r)] c) (cT (dt + 33) 44 [eR (.ref 0)] s) := by
  have h := S_try (dc + 2) (dt + 1) hn13 hH hD hO hsub1 hsub2 vo Op E p f c s hlv hR h8
  rw [kX7_wholeE, uX7_wholeE]
  simp only [t_isKey, hR.2.1, h8, h11, true_and, and_true, and_false, show ((8 : Int32) = 3) = False from by decide, show ((8 : Int32) = 5) = False from by decide, decide_false, decide_true, bi_f, bi_t, if_true, e10, if_false, b_I]
  exact PX_idT h
end
/-- heights: of a prefix at a level, of an E and of a prefix behind a word from a level on -/
def fH6 (j : Nat) : Nat := 6 * (24 - j) + 8
def hEx (lv : Nat) : Nat := if lv < 24 then fH6 (lv + 1) + 3 else 0
def hPx (lv : Nat) : Nat := if lv < 24 then fH6 (lv + 1) else 0
/-- E's and prefixes behind words are read alike from a level on -/
def TE (χ : Nat → Int32) (n t r lv : Nat) : Prop := ∀ (Oa Ou : Nat → Prop) (O d e : Nat), 400 * (25 - lv) ≤ d → 200 * (25 - lv) ≤ e → SP χ n t r Oa Ou O lv (hEx lv) (24 - lv) d 813 e 40 ∧ SP χ n t r Oa Ou O lv (hPx lv) (23 - lv) d 829 e 57
section
variable {χ : Nat → Int32} {n t r : Nat}
theorem RP_63 {p f : Nat} {vo : Nat → Nat} {Op Oa Ou : Nat → Prop} {E O : Nat} {c : cS} {s : tS} (h : RP χ n t r p f vo Op Oa Ou E O c s) : cnt s 63 ≤ 24 ∧ O ≤ 4 * cnt s 63 := by
  obtain ⟨Lt, _, _, _, l4⟩ := h.2.2.2.2.1
  exact ⟨h.2.2.2.1.2.1.2.1.1.2, l4⟩
theorem TE_24 : TE χ n t r 24 := by
  intro Oa Ou O d e hd he
  obtain ⟨d', rfl⟩ : ∃ d', d = d' + 34 := ⟨d - 34, by omega⟩
  obtain ⟨e', rfl⟩ : ∃ e', e = e' + 34 := ⟨e - 34, by omega⟩
  refine ⟨S_e d' e' (fun vo Op E p f c s h hR => ?_) (fun vo Op E p f c s h hR => ?_) (fun vo Op E p f c s h hR => ?_) (fun vo Op E p f c s h hR => ?_), S_behind (d' + 3) (e' + 3) (fun vo Op E p f c s h hR => ?_)⟩ <;> (have := (RP_63 hR).1; omega)
theorem F_inn (e : Nat) (s : tS) (h : tI s 6 ≠ 0) : ∃ q, cT (e + 30) 57 [eR (.ref 0)] s = some (.inl (some (eI q)), s) := ⟨0, F_inner (e + 26) h⟩
/-- prefixes at a level -/
theorem S_pre (hn13 : n ≤ 1280) {j : Nat} (hj1 : 1 ≤ j) (hj : j ≤ 24) (ih : TE χ n t r j) (Oa Ou : Nat → Prop) (O d e : Nat) (hd : 400 * (25 - j) + 150 ≤ d) (he : 200 * (25 - j) + 80 ≤ e) :
    ∀ (vo : Nat → Nat) (Op : Nat → Prop) (E p f : Nat) (c : cS) (s : tS), cnt s 63 = j → RP χ n t r p f vo Op Oa Ou E O c s → bPre s = true → PX χ n t r f p vo Op Oa Ou E O c s (fH6 j) (24 - j) (cC d 826 [eR (.ref r)] c) (cT e 56 [eR (.ref 0)] s) := by
  obtain ⟨x, rfl⟩ : ∃ x, d = (x + 119) + 31 := ⟨d - 150, by omega⟩
  obtain ⟨y, rfl⟩ : ∃ y, e = (y + 49) + 31 := ⟨e - 80, by omega⟩
  have hP1 : hPx j ≤ fH6 j - 1 := by unfold hPx fH6; split <;> omega
  have hP0 : hPx j ≤ fH6 j := by omega
  have hE3 : hEx j ≤ fH6 j - 3 := by unfold hEx fH6; split <;> omega
  have hF8 : 8 ≤ fH6 j := by unfold fH6; omega
  have h14 : 1 ≤ hPx j → 14 ≤ fH6 j := by unfold hPx fH6; split <;> omega
  have h14E : 1 ≤ hEx j → 14 ≤ fH6 j := by unfold hEx fH6; split <;> omega
  have hP149 : hPx j ≤ 149 := by unfold hPx fH6; split <;> omega
  have hE149 : hEx j ≤ 149 := by unfold hEx fH6; split <;> omega
  have sE : ∀ (Oa Ou : Nat → Prop) (d e : Nat), 400 * (25 - j) ≤ d → 200 * (25 - j) ≤ e → SP χ n t r Oa Ou O j (hEx j) (24 - j) d 813 e 40 := fun Oa Ou d e h1 h2 => (ih Oa Ou O d e h1 h2).1
  have sP : ∀ (Oa Ou : Nat → Prop) (d e : Nat), 400 * (25 - j) ≤ d → 200 * (25 - j) ≤ e → SP χ n t r Oa Ou O j (hPx j) (23 - j) d 829 e 57 := fun Oa Ou d e h1 h2 => (ih Oa Ou O d e h1 h2).2
  have hD : 23 - j ≤ 24 - j := by omega
  refine S_prefix (x + 119) (y + 49) (by omega) (SP_wk hP0 hD (sP Oa Ou (x + 119 + 30) (y + 49 + 30) (by omega) (by omega))) (fun s h => F_inn (y + 49) s h) (fun vo Op E p f c s hlv hR h8 h11 => ?_) (fun vo Op E p f c s hlv hR h8 h11 => ?_) (fun vo Op E p f c s hlv hR hb hnot => ?_)
  · have h80 : tI s 8 ≠ 0 := by rw [h8]; decide
    have hs : ∀ Ou', SP χ n t r Oa Ou' O j (hPx j) (23 - j) (x + 117 + 30) 829 (y + 47 + 30) 57 := fun Ou' => sP Oa Ou' _ _ (by omega) (by omega)
    exact S_priv (x + 117) (y + 47) h14 hP149 (by omega) hs vo Op E p f c s hlv hR h80 (J_lim (x + 117) (y + 47) h14 hP149 (by omega) hs vo Op E p f c s hlv hR)
  · have h80 : tI s 8 ≠ 0 := by rw [h8]; decide
    exact S_under (x + 117) (y + 47) h14 hP149 (by omega) (fun Ou' => SP_wk hP0 hD (sP Oa Ou' (x + 117 + 31) (y + 47 + 31) (by omega) (by omega))) (fun Ou' => sP Oa Ou' (x + 117 + 30) (y + 47 + 30) (by omega) (by omega)) vo Op E p f c s hlv hR h80
  · refine S_postfix (x + 117) (y + 46) (by omega) (SP_wk hE3 (Nat.le_refl _) (sE Oa Ou (x + 117 + 30) (y + 46 + 31) (by omega) (by omega))) (SP_wk hE3 (Nat.le_refl _) (sE Oa Ou (x + 117 + 30) (y + 46 + 30) (by omega) (by omega))) (SP_wk hP1 hD (sP Oa Ou (x + 117 + 31) (y + 46 + 31) (by omega) (by omega))) vo Op E p f c s hlv hR ?_
    exact S_atom (x + 66) (y + 44) hn13 (by omega) h14E hE149 (by omega) (fun Ou' => sE Oa Ou' _ _ (by omega) (by omega)) (fun Oa' => SP_wk (by omega) (Nat.le_refl _) (sE Oa' Ou _ _ (by omega) (by omega))) (SP_wk (by omega) (Nat.le_refl _) (sE Oa Ou _ _ (by omega) (by omega))) vo Op E p f c s hlv hR hb hnot
theorem TE_step (hn13 : n ≤ 1280) {lv : Nat} (hlv24 : lv < 24) (ih : TE χ n t r (lv + 1)) : TE χ n t r lv := by
  intro Oa Ou O d e hd he
  have hj1 : 1 ≤ lv + 1 := by omega
  have hj : lv + 1 ≤ 24 := by omega
  obtain ⟨x, rfl⟩ : ∃ x, d = (x + 266) + 34 := ⟨d - 300, by omega⟩
  obtain ⟨y, rfl⟩ : ∃ y, e = (y + 146) + 34 := ⟨e - 180, by omega⟩
  have eE : hEx lv = fH6 (lv + 1) + 3 := if_pos hlv24
  have eP : hPx lv = fH6 (lv + 1) := if_pos hlv24
  have hE1 : hEx (lv + 1) ≤ hEx lv := by rw [eE]; unfold hEx fH6; split <;> omega
  have hF : 8 ≤ fH6 (lv + 1) := by unfold fH6; omega
  have sE : ∀ (O d e : Nat), 400 * (25 - (lv + 1)) ≤ d → 200 * (25 - (lv + 1)) ≤ e → SP χ n t r Oa Ou O (lv + 1) (hEx (lv + 1)) (24 - (lv + 1)) d 813 e 40 := fun O d e h1 h2 => (ih Oa Ou O d e h1 h2).1
  have hpre := fun d e h1 h2 => S_pre hn13 hj1 hj ih Oa Ou O d e h1 h2
  constructor
  · intro vo Op E p f c s hlv hR
    have hO : O ≤ 4 * lv := by rw [← hlv]; exact (RP_63 hR).2
    refine S_e (x + 266) (y + 146) (fun vo Op E p f c s hlv hR h8 h11 => ?_) (fun vo Op E p f c s hlv hR h8 h11 => ?_) (fun vo Op E p f c s hlv hR h8 h11 => ?_) (fun vo Op E p f c s hlv hR hnot => ?_) vo Op E p f c s hlv hR
    · exact H_let (x + 266) (y + 146) hn13 (by rw [eE]; omega) (by omega) (SP_wk hE1 (by omega) (sE (O + 2) (x + 266 + 32) (y + 146 + 31) (by omega) (by omega))) (SP_wk hE1 (by omega) (sE O (x + 266 + 32) (y + 146 + 30) (by omega) (by omega))) vo Op E p f c s hlv hR h8 h11
    · exact H_if (x + 266) (y + 146) (by rw [eE]; omega) (SP_wk hE1 (by omega) (sE O (x + 266 + 32) (y + 146 + 31) (by omega) (by omega))) vo Op E p f c s hlv hR h8 h11
    · exact H_try (D1 := 24 - (lv + 1)) (x + 266) (y + 146) hn13 (by rw [eE]; omega) (by omega) (by omega) (SP_wk hE1 (Nat.le_refl _) (sE O (x + 266 + 32) (y + 146 + 31) (by omega) (by omega))) (SP_wk hE1 (by omega) (sE O (x + 266 + 32) (y + 146 + 30) (by omega) (by omega))) vo Op E p f c s hlv hR h8 h11
    · have a1 : SP χ n t r Oa Ou O (lv + 1) (fH6 (lv + 1)) (24 - (lv + 1)) (x + 266 + 30) 826 (y + 146 + 30) 55 := S_any (x + 266) (y + 145) (hpre _ _ (by omega) (by omega))
      have a2 : SP χ n t r Oa Ou O (lv + 1) (fH6 (lv + 1) + 1) (24 - (lv + 1)) (x + 266 + 31) 825 (y + 146 + 31) 54 := S_product (x + 271) (y + 151) (by omega) a1
      have a3 : SP χ n t r Oa Ou O (lv + 1) (fH6 (lv + 1) + 2) (24 - (lv + 1)) (x + 266 + 32) 824 (y + 146 + 32) 53 := S_sum (x + 272) (y + 152) (by omega) a2
      have a4 := S_cmp (x + 273) (y + 153) (H := fH6 (lv + 1) + 2) (by omega) a3 vo Op E p f c s hlv hR hnot
      exact PX_wk (by rw [eE]; omega) (by omega) a4
  · have h := S_behind (n := n) (t := t) (r := r) (χ := χ) (Oa := Oa) (Ou := Ou) (O := O) (x + 269) (y + 149) (hpre (x + 269 + 30) (y + 149 + 30) (by omega) (by omega))
    exact SP_wk (by rw [eP]; exact Nat.le_refl _) (by omega) h
theorem TE_all (hn13 : n ≤ 1280) : ∀ m, m ≤ 24 → TE χ n t r (24 - m) := by
  intro m
  induction m with
  | zero => intro _; exact TE_24
  | succ m ih =>
    intro hm
    have h := ih (by omega)
    have e : 24 - m = (24 - (m + 1)) + 1 := by omega
    rw [e] at h
    exact TE_step hn13 (by omega) h
theorem TE_0 (hn13 : n ≤ 1280) : TE χ n t r 0 := TE_all hn13 24 (by omega)
end
