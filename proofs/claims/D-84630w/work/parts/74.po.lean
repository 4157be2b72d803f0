set_option maxRecDepth 100000
set_option maxHeartbeats 2000000
/-! D24: writes, one by one; a part is counted; one deeper -/
section
variable {XI XL XR XC YI YL YA YB : List Nat} {c c' : cS} {s s' : tS}
theorem CH_refl (XI XL XR XC : List Nat) (c : cS) : CH XI XL XR XC c c := ⟨Nat.le_refl _, fun _ _ => ⟨rfl, rfl⟩, fun _ _ _ _ => rfl, fun _ _ _ _ => rfl, fun _ _ _ _ => rfl, fun _ _ _ => rfl, fun _ _ _ => rfl, id⟩
theorem CH_I {x a : Nat} {v : Int32} (hx : x ∈ XI ∨ ¬ live c a) (h : CH XI XL XR XC c c') : CH XI XL XR XC c (csI c' x a v) := by
  obtain ⟨h1, h2, h3, h4, h5, h6, h7, h8⟩ := h
  refine ⟨h1, h2, fun y b hy hb => ?_, h4, h5, h6, h7, h8⟩
  rw [g_I_I, if_neg]
  · exact h3 y b hy hb
  · rintro ⟨rfl, rfl⟩
    rcases hx with q | q
    · exact hy q
    · exact q hb
theorem CH_L {x a : Nat} {v : Int64} (hx : x ∈ XL ∨ ¬ live c a) (h : CH XI XL XR XC c c') : CH XI XL XR XC c (csL c' x a v) := by
  obtain ⟨h1, h2, h3, h4, h5, h6, h7, h8⟩ := h
  refine ⟨h1, h2, h3, fun y b hy hb => ?_, h5, h6, h7, h8⟩
  rw [g_L_L, if_neg]
  · exact h4 y b hy hb
  · rintro ⟨rfl, rfl⟩
    rcases hx with q | q
    · exact hy q
    · exact q hb
theorem CH_R0 {x a : Nat} {v : Value} (hBD : BD c → BD (csR c' x a v)) (hx : x ∈ XR ∨ ¬ live c a) (h : CH XI XL XR XC c c') : CH XI XL XR XC c (csR c' x a v) := by
  obtain ⟨h1, h2, h3, h4, h5, h6, h7, h8⟩ := h
  refine ⟨h1, h2, h3, h4, fun y b hy hb => ?_, h6, h7, hBD⟩
  rw [g_R_R, if_neg]
  · exact h5 y b hy hb
  · rintro ⟨rfl, rfl⟩
    rcases hx with q | q
    · exact hy q
    · exact q hb
theorem BD_R {x a : Nat} {v : Value} (hx : x ∉ [2700, 3003, 3201]) (h : BD c') : BD (csR c' x a v) := by
  intro o y L hk e
  rw [g_R_R, if_neg (by
    rintro ⟨rfl, _⟩
    apply hx
    unfold bdx at hk
    simp only [List.mem_cons, List.not_mem_nil, or_false]
    omega)] at e
  exact h o y L hk e
theorem CH_R {x a : Nat} {v : Value} (hx : x ∈ XR ∨ ¬ live c a) (h : CH XI XL XR XC c c') (hb : x ∉ [2700, 3003, 3201] := by decide) : CH XI XL XR XC c (csR c' x a v) := CH_R0 (fun q => BD_R hb (h.2.2.2.2.2.2.2 q)) hx h
theorem CH_Ls {a : Nat} {l : List Value} (hx : cCl c a ∈ XC ∨ cCl c a = 0) (h : CH XI XL XR XC c c') : CH XI XL XR XC c (csLs c' a l) := by
  obtain ⟨h1, h2, h3, h4, h5, h6, h7, h8⟩ := h
  refine ⟨h1, h2, h3, h4, h5, fun b hy hb => ?_, h7, h8⟩
  rw [g_Ls_Ls, if_neg]
  · exact h6 b hy hb
  · rintro rfl
    rcases hx with q | q
    · exact hy q
    · exact hb q
theorem CH_Cap {a m : Nat} (h : CH XI XL XR XC c c') : CH XI XL XR XC c (csCap c' a m) := h
theorem CH_Cl0 {a m : Nat} (hBD : BD c → BD (csCl c' a m)) (ha : cCl c a = 0) (h : CH XI XL XR XC c c') : CH XI XL XR XC c (csCl c' a m) := by
  obtain ⟨h1, h2, h3, h4, h5, h6, h7, h8⟩ := h
  refine ⟨h1, fun b hb => ⟨?_, (h2 b hb).2⟩, h3, h4, h5, h6, h7, hBD⟩
  rw [g_Cl_Cl, if_neg (by rintro rfl; exact hb ha)]
  exact (h2 b hb).1
theorem BD_Cl {a m : Nat} (hm : m ≠ 0 ∧ m ≠ 27 ∧ m ≠ 30 ∧ m ≠ 32) (h : BD c') : BD (csCl c' a m) := by
  intro o y L hk e
  rw [g_Cl_Cl] at hk ⊢
  have h2 : cCl c' L ≠ 0 := by
    by_cases q : o = a
    · rw [if_pos q] at hk; unfold bdx at hk; omega
    · rw [if_neg q] at hk; exact h o y L hk e
  by_cases q : L = a
  · rw [if_pos q]; exact hm.1
  · rw [if_neg q]; exact h2
theorem CH_Cl {a m : Nat} (ha : cCl c a = 0) (h : CH XI XL XR XC c c') (hm : m ≠ 0 ∧ m ≠ 27 ∧ m ≠ 30 ∧ m ≠ 32 := by decide) : CH XI XL XR XC c (csCl c' a m) := CH_Cl0 (fun q => BD_Cl hm (h.2.2.2.2.2.2.2 q)) ha h
theorem CH_Len {a m : Nat} (ha : cCl c a = 0) (h : CH XI XL XR XC c c') : CH XI XL XR XC c (csLen c' a m) := by
  obtain ⟨h1, h2, h3, h4, h5, h6, h7, h8⟩ := h
  refine ⟨h1, fun b hb => ⟨(h2 b hb).1, ?_⟩, h3, h4, h5, h6, h7, h8⟩
  rw [g_Len_Len, if_neg (by rintro rfl; exact hb ha)]
  exact (h2 b hb).2
theorem CH_more {m : Nat} (h : CH XI XL XR XC c c') : CH XI XL XR XC c (cmore c' m) := by
  obtain ⟨h1, h2, h3, h4, h5, h6, h7, h8⟩ := h
  exact ⟨by rw [g_Nx_more]; omega, h2, h3, h4, h5, h6, h7, h8⟩
theorem TH_refl (YI YL YA YB : List Nat) (s : tS) : TH YI YL YA YB s s := ⟨fun _ _ => rfl, fun _ _ => rfl, fun _ _ _ => rfl, fun _ _ _ => rfl⟩
theorem TH_I {x : Nat} {v : Int32} (hx : x ∈ YI) (h : TH YI YL YA YB s s') : TH YI YL YA YB s (tsI s' x v) := by
  obtain ⟨h1, h2, h3, h4⟩ := h
  refine ⟨fun y hy => ?_, h2, h3, h4⟩
  rw [t_I_I, if_neg (by rintro rfl; exact hy hx)]
  exact h1 y hy
theorem TH_A {x j : Nat} {v : Int32} (hx : x ∈ YA) (h : TH YI YL YA YB s s') : TH YI YL YA YB s (tsA s' x j v) := by
  obtain ⟨h1, h2, h3, h4⟩ := h
  refine ⟨h1, h2, fun y i hy => ?_, h4⟩
  rw [t_A_A, if_neg (by rintro ⟨rfl, _⟩; exact hy hx)]
  exact h3 y i hy
theorem TH_B {x j : Nat} {v : Int64} (hx : x ∈ YB) (h : TH YI YL YA YB s s') : TH YI YL YA YB s (tsB s' x j v) := by
  obtain ⟨h1, h2, h3, h4⟩ := h
  refine ⟨h1, h2, h3, fun y i hy => ?_⟩
  rw [t_B_B, if_neg (by rintro ⟨rfl, _⟩; exact hy hx)]
  exact h4 y i hy
theorem WX_ch {χ : Nat → Int32} {n w t : Nat} (h : CH XI XL XR XC c c') (hA : cAI c' t = cAI c t) (hd : (dj [1001] XI && dj [1000] XR) = true) (hW : WX χ n w t c) : WX χ n w t c' := by
  simp only [Bool.and_eq_true] at hd
  obtain ⟨h1, h2, h3, h4, h5, h6, h7, h8⟩ := hW
  refine ⟨ch_cl h h1 (by decide), by rw [ch_I h h1 (by decide) (dj_not hd.1 (by simp))]; exact h2, by rw [ch_R h h1 (by decide) (dj_not hd.2 (by simp))]; exact h3, ch_cl h h4 (by decide), by rw [(h.2.1 t (by rw [h4]; decide)).2]; exact h5, h6, fun k hk => by rw [hA]; exact h7 k hk, h8⟩
/-- the words stay where nothing of them is written -/
theorem LX_ch {χ : Nat → Int32} {n w t m ks st p f : Nat} (h : CH XI XL XR XC c c') (ht : TH YI YL YA YB s s') (hA : cAI c' t = cAI c t) (hB : cAL c' ks = cAL c ks) (hd : (dj [1001, 1002, 1003, 1004, 1005, 1006, 1201] XI && dj [1007] XL && dj [1000, 1008, 1009, 1011, 1200] XR && dj [4, 8, 9, 10, 11, 14, 15, 16] YI && dj [12] YL && dj [3] YA && dj [13] YB) = true) (hL : LX χ n w t m ks st p f c s) : LX χ n w t m ks st p f c' s' := by
  simp only [Bool.and_eq_true] at hd
  obtain ⟨⟨⟨⟨⟨⟨d1, d2⟩, d3⟩, d4⟩, d5⟩, d6⟩, d7⟩ := hd
  obtain ⟨⟨a1, a2, ⟨b1, b2, b3, b4⟩, ⟨e1, e2, e3⟩, ⟨f1, f2, f3, f4⟩, ⟨g1, g2, g3⟩, i1, i2, i3⟩, j1, j2, j3, j4, j5⟩ := hL
  have hw := a1.1
  have nI : ∀ x, x ∈ [1001, 1002, 1003, 1004, 1005, 1006, 1201] → cI c' x w = cI c x w := fun x hx => ch_I h hw (by decide) (dj_not d1 hx)
  have nR : ∀ x, x ∈ [1000, 1008, 1009, 1011, 1200] → cR c' x w = cR c x w := fun x hx => ch_R h hw (by decide) (dj_not d3 hx)
  have nT : ∀ x, x ∈ [4, 8, 9, 10, 11, 14, 15, 16] → tI s' x = tI s x := fun x hx => th_I ht (dj_not d4 hx)
  have nL : cL c' 1007 w = cL c 1007 w := ch_L h hw (by decide) (dj_not d2 (by simp))
  refine ⟨⟨WX_ch h hA (by simp only [Bool.and_eq_true]; exact ⟨dj_sub (by decide) d1, dj_sub (by decide) d3⟩) a1, ⟨by rw [nT 4 (by simp)]; exact a2.1, a2.2.1, fun k hk => by rw [th_A ht (dj_not d6 (by simp))]; exact a2.2.2.1 k hk, a2.2.2.2⟩, ⟨by rw [nR 1011 (by simp)]; exact b1, ch_cl h b2 (by decide), by rw [(h.2.1 ks (by rw [b2]; decide)).2]; exact b3, fun k hk => by rw [hB]; exact b4 k hk⟩, ⟨by rw [nR 1009 (by simp)]; exact e1, ch_cl h e2 (by decide), by rw [(h.2.1 st (by rw [e2]; decide)).2]; exact e3⟩, ⟨Nat.lt_of_lt_of_le f1 h.1, Nat.lt_of_lt_of_le f2 h.1, Nat.lt_of_lt_of_le f3 h.1, Nat.lt_of_lt_of_le f4 h.1⟩, ⟨g1, by rw [nI 1002 (by simp)]; exact g2, by rw [nT 16 (by simp)]; exact g3⟩, i1, by rw [nI 1003 (by simp)]; exact i2, by rw [nT 10 (by simp)]; exact i3⟩, j1, by rw [nI 1005 (by simp)]; exact j2, by rw [nT 9 (by simp)]; exact j3, by rw [nI 1004 (by simp), nT 8 (by simp)]; exact j4, ?_⟩
  unfold LW at j5 ⊢
  have nTL : tL s' 12 = tL s 12 := ht.2.1 12 (dj_not d5 (by simp))
  rw [nI 1006 (by simp), nL, nR 1008 (by simp), nT 8 (by simp), nT 11 (by simp), nT 14 (by simp), nT 15 (by simp), nTL]
  rcases j5 with q | q | q | q | ⟨q1, q2, P, l, tl, r1, r2, r3, r4, r5, r6, r7, r8⟩ | q
  · exact Or.inl q
  · exact Or.inr (Or.inl q)
  · exact Or.inr (Or.inr (Or.inl q))
  · exact Or.inr (Or.inr (Or.inr (Or.inl q)))
  · exact Or.inr (Or.inr (Or.inr (Or.inr (Or.inl ⟨q1, q2, P, l, tl, r1, PT_fr h (dj_sub (by decide) d1) (dj_sub (by decide) d3) r2, r3, r4, r5, r6, r7, fun i hi => by rw [th_B ht (dj_not d7 (by simp))]; exact r8 i hi⟩))))
  · exact Or.inr (Or.inr (Or.inr (Or.inr (Or.inr q))))
end
section
variable {χ : Nat → Int32} {n t r p f : Nat} {vo : Nat → Nat} {Op Oa Ou : Nat → Prop} {E O : Nat} {c : cS} {s : tS}
theorem RBt_E {E' : Nat} (hE : E' ≤ E) (h : RBt r Ou E c s) : RBt r Ou E' c s := by
  obtain ⟨Wt, q1, q2⟩ := h
  exact ⟨Wt, by omega, q2⟩
theorem cok_lt {x b k : Nat} (h : cok s x b) (hb : b < 2147483648) (hk : k < 2147483648) : (tI s x < Int32.ofNat k) = (cnt s x < k) := by
  obtain ⟨e, l⟩ := h
  generalize cnt s x = m at e l ⊢
  rw [e, z_lt (by omega) hk]
theorem cok_eq {x b k : Nat} (h : cok s x b) (hb : b < 2147483648) (hk : k < 2147483648) : (tI s x = Int32.ofNat k) = (cnt s x = k) := by
  obtain ⟨e, l⟩ := h
  generalize cnt s x = m at e l ⊢
  rw [e, z_eq (by omega) hk]
theorem cnt_of {x k : Nat} (e : tI s x = Int32.ofNat k) (hk : k < 2147483648) : cnt s x = k := by
  unfold cnt; rw [e, z_nat hk]
theorem cok_of {x k b : Nat} (e : tI s x = Int32.ofNat k) (hk : k < 2147483648) (hb : k ≤ b) : cok s x b := by
  refine ⟨?_, ?_⟩
  · rw [cnt_of e hk]; exact e
  · rw [cnt_of e hk]; exact hb
theorem cnt_up {x b : Nat} (h : cok s x b) (hb : b < 2147483647) : cnt (tsI s x (tI s x + 1)) x = cnt s x + 1 ∧ tI (tsI s x (tI s x + 1)) x = Int32.ofNat (cnt s x + 1) := by
  obtain ⟨e, l⟩ := h
  have e2 : tI (tsI s x (tI s x + 1)) x = Int32.ofNat (cnt s x + 1) := by
    rw [t_I_I, if_pos rfl]
    generalize cnt s x = m at e l ⊢
    rw [e, show (1 : Int32) = Int32.ofNat 1 from rfl, z_add]
  exact ⟨cnt_of e2 (by omega), e2⟩
/-- a part is counted -/
def ptC (c : cS) (r : Nat) : cS := csI c 908 (r + 1) (cI c 908 (r + 1) + 1)
def ptT (s : tS) : tS := tsI s 62 (tI s 62 + 1)
theorem P_part (d e : Nat) (h : RP χ n t r p f vo Op Oa Ou E O c s) :
    (∃ a c' s' k pl, cC (d + 15) 818 [eR (.ref r)] c = some (.inr (.ref a), c') ∧ cT (e + 3) 46 [eR (.ref 0)] s = some (.inl (some (eI 0)), s') ∧ thr c' a k pl ∧ tI s' 6 = k ∧ tI s' 7 = pl ∧ k ≠ 0 ∧ cNx c' ≤ cNx c + 3 ∧ cSl c' ≤ cSl c + 16) ∨
    (cC (d + 15) 818 [eR (.ref r)] c = some (.inl none, ptC c r) ∧ cT (e + 3) 46 [eR (.ref 0)] s = some (.inl (some (eI 1)), ptT s) ∧ RP χ n t r p f vo Op Oa Ou (E + 60) O (ptC c r) (ptT s) ∧ ST n r f c s f (ptC c r) (ptT s) ∧ cnt (ptT s) 62 = cnt s 62 + 1) := by
  have h0 := h
  obtain ⟨hL, hfi, hn, hQ, hN, hOu, hOp, hOa, hOu2⟩ := h
  obtain ⟨hS, hC, hG, hLm, hM, hU, hV, hI, hF, hA, hB⟩ := hQ
  have hw := hL.1.1.1
  have hl := hL.1.2.2.2.2.1.1
  obtain ⟨⟨q1, q2⟩, q3, q4, q5, q6⟩ := hC
  rw [c_part d hS.1 hS.2.1 hw hl hS.2.2.1 hS.2.2.2.2.1, t_counts]
  simp only [hfi, if_true]
  rw [q2]
  have e400 : (tI s 62 < 400) = (cnt s 62 < 400) := cok_lt q1 (by decide) (by decide)
  have e400' : (tI s 62 = 400) = (cnt s 62 = 400) := cok_eq q1 (by decide) (by decide)
  simp only [e400, e400']
  by_cases q : cnt s 62 < 400
  · right
    rw [if_pos q, if_neg (by omega)]
    have hch : CH [908] [] [] [] c (ptC c r) := CH_I (Or.inl (by simp)) (CH_refl _ _ _ _ c)
    have hth : TH [62] [] [] [] s (ptT s) := TH_I (by simp) (TH_refl _ _ _ _ s)
    obtain ⟨u1, u2⟩ := cnt_up q1 (by decide)
    have hC' : RCt r (ptC c r) (ptT s) := by
      refine ⟨⟨cok_of u2 (by omega) (by omega), ?_⟩, ?_, ?_, ?_, ?_⟩
      · unfold ptC ptT
        rw [g_I_I, if_pos ⟨rfl, rfl⟩, t_I_I, if_pos rfl, q2]
      · exact ⟨by rw [th_cok hth (by decide)]; exact q3.1, by rw [th_I hth (by decide), ch_I hch hS.1 (by decide) (by decide)]; exact q3.2⟩
      · obtain ⟨a1, a2, a3, a4⟩ := q4
        exact ⟨by rw [th_cok hth (by decide)]; exact a1, by rw [th_cnt hth (by decide)]; unfold ptT; rw [u1]; omega, by rw [th_cnt hth (by decide)]; exact a3, by rw [th_cnt hth (by decide)]; exact a4⟩
      · obtain ⟨a1, a2, a3, a4⟩ := q5
        exact ⟨by rw [th_cok hth (by decide)]; exact a1, by rw [th_cnt hth (by decide)]; unfold ptT; rw [u1]; omega, by rw [th_cnt hth (by decide)]; exact a3, by rw [th_cnt hth (by decide)]; exact a4⟩
      · exact ⟨by rw [th_cok hth (by decide)]; exact q6.1, by rw [th_cnt hth (by decide)]; have := q6.2; unfold ptT; rw [u1]; omega⟩
    have hKC : KC r c (ptC c r) := KC_of hch hS (Nat.le_refl _) (by decide)
    have hKT : KT s (ptT s) := KT_of hth (by decide)
    have hB' : RBt r Ou (E + 60) (ptC c r) (ptT s) := RBt_mono hKC hKT hU.2.1.1 (fun v hv => (hV.2.1 v hv).2.2.1) (th_cnt hth (by decide)) (by unfold ptT; rw [u1]; omega) (fun _ _ _ => rfl) (fun _ _ _ => rfl) (fun _ _ _ _ _ => rfl) hB
    refine ⟨by unfold ptC; rw [q2], rfl, ⟨LX_ch hch hth rfl rfl (by decide) hL, by rw [th_I hth (by decide)]; exact hfi, CLN_I (by rw [hS.2.2.2.2.1]) hn, ⟨RSt_fr hch (by decide) hS, hC', RGt_fr hch hth hS (by decide) hG, RLt_fr hch hth hS (by decide) hLm, RMt_fr hch hth hS (by decide) (by decide) hM, RUt_fr hch hth hS (by decide) (by decide) hU, RVt_fr hch hth hS hU (by decide) hV, RIt_fr hch hth hS hV (by decide) hI, RFt_fr hch hth hS hU (by decide) hF, RAt_fr hch hth hS (by decide) hA, hB'⟩, hN, hOu, hOp, hOa, hOu2⟩, ⟨hKC, hKT, fun _ _ _ _ => rfl, Nat.le_refl _, Nat.le_refl _, Nat.le_refl _, fun _ q => q⟩, by unfold ptT; exact u1⟩
  · left
    have q7 : cnt s 62 = 400 := by have := q1.2; omega
    rw [if_neg q, if_pos q7]
    obtain ⟨y1, y2, y3, y4, y5⟩ := lx_mis hL hfi 4 (by decide)
    have k1 : tI (tsI (fH s 4 (tI s 9)) 62 (tI s 62 + 1)) 6 = 4 := by rw [t_I_I, if_neg (by decide)]; exact y4
    exact ⟨_, _, _, _, _, rfl, rfl, y1, k1, by rw [t_I_I, if_neg (by decide)]; exact y5, by decide, by rw [(wH_nx _ _ _).1]; omega, by rw [(wH_nx _ _ _).2]; omega⟩
end
