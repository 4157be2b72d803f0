set_option maxRecDepth 100000
set_option maxHeartbeats 4000000
/-! D102: parameters, whole -/
section
variable {χ : Nat → Int32} {n t r : Nat} {Op Oa Ou : Nat → Prop} {E O : Nat}
theorem PI_fc {u lu b0 : Nat} {od : Int32} {vo : Nat → Nat} {p f : Nat} {c : cS} {q s : tS} (hPI : PI χ n t r u lu b0 od Op Oa Ou E O vo p f c q s) : LX χ n (r + 16) t 4 (r + 19) (r + 17) p f c s ∧ tI s 6 = 0 ∧ cCl c r = 8 ∧ cR c 800 r = .ref (r + 16) ∧ cR c 805 r = .ref (r + 15) ∧ cCl c (r + 15) = 5805 ∧ cCl c (r + 16) = 10 ∧ r + 16 < cNx c ∧ (cLs c (r + 15)).length = cnt s 56 ∧ cnt s 56 ≤ 12 ∧ tI q 56 = Int32.ofNat (cnt s 56) ∧ u < 60 ∧ cCl c lu = 16 ∧ cI c 1607 lu = Int32.ofNat (ca s 39 u) ∧ tA q 39 u = Int32.ofNat (ca s 39 u) ∧ ca s 39 u ≤ 3 ∧ (cLs (csR c 803 r (.ref lu)) (r + 8)).length = cnt s 35 := by
  obtain ⟨hR, hVQ, _, hu, hlid, _⟩ := hPI
  have hS := hR.2.2.2.1.1
  have hU := hR.2.2.2.1.2.2.2.2.2.1
  have hI := hR.2.2.2.1.2.2.2.2.2.2.2.1
  have h60 : cnt s 35 ≤ 60 := hU.1.2
  have hlidV : lid (csR c 803 r (.ref lu)) (r + 8) u = lu := hlid
  obtain ⟨_, _, _, _, _, ⟨u39, u7⟩, _⟩ := hU.2.2 u hu
  have hcu := (hU.2.1.2 u hu).2
  rw [hlidV] at u7 hcu
  have u39' : tA s 39 u = Int32.ofNat (ca s 39 u) := u39.1
  refine ⟨LX_V hR.1, hR.2.1, hS.1, ?_, ?_, RSt_vL (c := csR c 803 r (.ref lu)) hS, hR.1.1.1.1, hR.1.1.2.2.2.2.1.1, hI.2.2.1.2.1, hI.2.2.1.1.2, (th_I hVQ (by decide)).symm.trans hI.2.2.1.1.1, by omega, hcu, ?_, (th_A hVQ (by decide) u).symm.trans u39', u39.2, RP_len hR⟩
  · have := hS.2.1; rw [g_R_R, if_neg (by simp)] at this; exact this
  · have := hS.2.2.2.1; rw [g_R_R, if_neg (by simp)] at this; exact this
  · have u7' : cI c 1607 lu = tA s 39 u := u7
    rw [u7', u39']
/-- the same of the reference's state -/
theorem PI_q {u lu b0 : Nat} {od : Int32} {vo : Nat → Nat} {p f : Nat} {c : cS} {q s : tS} (hPI : PI χ n t r u lu b0 od Op Oa Ou E O vo p f c q s) : LX χ n (r + 16) t 4 (r + 19) (r + 17) p f c q ∧ tI q 6 = 0 ∧ tI q 8 = tI s 8 ∧ tI q 11 = tI s 11 ∧ tL q 12 = tL s 12 :=
  ⟨LX_Q hPI.2.1 (LX_V hPI.1.1), (th_I hPI.2.1 (by decide)).symm.trans hPI.1.2.1, (th_I hPI.2.1 (by decide)).symm, (th_I hPI.2.1 (by decide)).symm, (hPI.2.1.2.1 12 (by simp)).symm⟩
theorem par_loop (dc dt : Nat) (hn13 : n ≤ 1280) {u lu b0 : Nat} {od : Int32} {c0 : cS} {f0 : Nat} : ∀ (m : Nat) (vo : Nat → Nat) (p f : Nat) (c : cS) (q s : tS), PI χ n t r u lu b0 od Op Oa Ou E O vo p f c q s → m + ca s 39 u = 3 → cNx c + 300 * (n - f) ≤ cNx c0 + 300 * (n - f0) → cSl c + 2000 * (n - f) ≤ cSl c0 + 2000 * (n - f0) →
    pN n f0 c0 (fX8_parameters_13 (cC (dc + 30)) (.ref r) (.ref lu) (Int32.ofNat b0) 1 c) (fX7_parameters_16 (cT (dt + 30)) (Int32.ofNat u) od (Int32.ofNat b0) 1 q) ∨ ∃ c' q' s' p' f' vo', fX8_parameters_13 (cC (dc + 30)) (.ref r) (.ref lu) (Int32.ofNat b0) 1 c = some (.inl none, c') ∧ fX7_parameters_16 (cT (dt + 30)) (Int32.ofNat u) od (Int32.ofNat b0) 1 q = some (.inl none, q') ∧ PI χ n t r u lu b0 od Op Oa Ou E O vo' p' f' c' q' s' ∧ PQ n r lu u vo f c q s vo' f' c' q' s' ∧ p ≤ f' := by
  intro m
  induction m with
  | zero =>
    intro vo p f c q s hPI hm k1 k2
    obtain ⟨_, _, hr, h800, h805, hvL, hw, hl, hlen, h12, e56, hu60, hcu, h1607, h39, h39b, _⟩ := PI_fc hPI
    obtain ⟨hLX, hfi, _, _, _⟩ := PI_q hPI
    have h1004 : cI c 1004 (r + 16) = tI q 8 := hLX.2.2.2.2.1
    obtain ⟨_, y2, y3, _, _⟩ := lx_mis hLX hfi 1 (by decide)
    obtain ⟨_, _, _, z4, z5⟩ := lx_mis hLX hfi 4 (by decide)
    left
    rw [uX8_parameters_13, if_neg n10, uX7_parameters_16, if_neg n10, c_name (dc + 15) hr h800 hw hl, h1004, t_isName (dt + 27), if_pos hfi]
    by_cases hn1 : tI q 8 = 1
    · have e3 : ca s 39 u = 3 := by omega
      rw [if_pos hn1, b_L, if_pos hn1, b_I, if_neg n10, r_cgI, if_pos hcu, h1607, e3, if_neg (by decide), q_39 hu60, h39, e3, if_pos (show Int32.ofNat 3 = (3 : Int32) from rfl), t_fails (dt + 28), b_V]
      have em : cC (dc + 30) 803 [eR (.ref r), eI 0, eI 4] c = some (.inr (.ref (cNx c)), wH c 4 (cI c 1005 (r + 16))) := (c_must (dc + 16) false 4 hr h800 hw hl).trans (if_neg (by decide))
      rw [em, b_Vx]
      exact pN_mis hLX hfi 4 (by decide) k1 k2 (s1 := fH q 4 (tI q 9)) rfl rfl rfl ⟨z4, z5⟩
    · rw [if_neg hn1, b_Lx, if_neg hn1, b_I, if_pos rfl]
      exact pN_mis hLX hfi 1 (by decide) k1 k2 (s1 := fH q 1 (if tI q 8 = 0 then tI q 4 else tI q 9)) rfl rfl rfl ⟨y2, y3⟩
  | succ m ih =>
    intro vo p f c q s hPI hm k1 k2
    obtain ⟨hLXs, _, hr, h800, h805, hvL, hw, hl, hlen, h12, e56, hu60, hcu, h1607, h39, h39b, hlenU⟩ := PI_fc hPI
    obtain ⟨hLX, hfi, q8, _, _⟩ := PI_q hPI
    have h1004 : cI c 1004 (r + 16) = tI q 8 := hLX.2.2.2.2.1
    obtain ⟨_, y2, y3, _, _⟩ := lx_mis hLX hfi 1 (by decide)
    obtain ⟨_, _, _, x4, x5⟩ := lx_mis hLX hfi 2 (by decide)
    obtain ⟨_, _, _, z4, z5⟩ := lx_mis hLX hfi 4 (by decide)
    rw [uX8_parameters_13, if_neg n10, uX7_parameters_16, if_neg n10, c_name (dc + 15) hr h800 hw hl, h1004, t_isName (dt + 27), if_pos hfi]
    by_cases hn1 : tI q 8 = 1
    · have hn1s : tI s 8 = 1 := q8.symm.trans hn1
      have h3lt : ca s 39 u < 3 := by omega
      have q3 : Int32.ofNat (ca s 39 u) < (3 : Int32) := Eq.mpr (z_lt (show ca s 39 u < 2147483648 by omega) (show 3 < 2147483648 by decide)) h3lt
      have q3e : ¬ Int32.ofNat (ca s 39 u) = (3 : Int32) := fun w => by
        have := Eq.mp (z_eq (show ca s 39 u < 2147483648 by omega) (show 3 < 2147483648 by decide)) w
        omega
      have q12 : (Int32.ofNat (cnt s 56) < (12 : Int32)) = (cnt s 56 < 12) := z_lt (show cnt s 56 < 2147483648 by omega) (show 12 < 2147483648 by decide)
      have q12e : (Int32.ofNat (cnt s 56) = (12 : Int32)) = (cnt s 56 = 12) := z_eq (show cnt s 56 < 2147483648 by omega) (show 12 < 2147483648 by decide)
      rw [if_pos hn1, b_L, if_pos hn1, b_I, if_neg n10, r_cgI, if_pos hcu, h1607, if_pos q3, r_cgR, if_pos hr, h805, c_len (dc + 21) hvL rfl, b_I, hlen, q_39 hu60, h39, if_neg q3e, e56]
      by_cases hlt : cnt s 56 < 12
      · have em : cC (dc + 30) 803 [eR (.ref r), eI 1, eI 4] c = some (.inl none, c) := (c_must (dc + 16) true 4 hr h800 hw hl).trans (if_pos rfl)
        rw [if_pos (Eq.mpr q12 hlt), em, b_V, if_neg (fun w => by have := Eq.mp q12e w; omega)]
        rcases dup_loop (lu := lu) (u := u) (b0 := b0) (od := od) (dc + 15) (dt + 28) hPI.1 hPI.2.1 hn1s (cnt s 56 - b0) b0 (by have := hPI.2.2.2.2.2.2.2.2.2.1; omega) with ⟨j1, j2⟩ | ⟨j1, j2⟩
        · left
          rw [j1, j2]
          exact pN_mis hLX hfi 2 (by decide) k1 k2 (s1 := fH q 2 (tI q 9)) rfl rfl rfl ⟨x4, x5⟩
        · rw [j1, j2]
          obtain ⟨c2, r1, _, hPI2, nx2, sl2, hKC2, hKT2, hraw2, h8032, h392⟩ := par_one (dc + 19) hn13 hPI hn1s (by omega) hlt
          obtain ⟨_, _, r2', _⟩ := par_one (dt + 19) hn13 hPI hn1s (by omega) hlt
          have nlt : ¬ Int32.ofNat (cnt s 56) < Int32.ofNat (cnt s 56) := fun w => by
            have := Eq.mp (z_lt (show cnt s 56 < 2147483648 by omega) (show cnt s 56 < 2147483648 by omega)) w
            omega
          rw [uX8_parameters_35, r_cgR, if_pos hr, h805, c_len (dc + 21) hvL rfl, b_I, hlen, if_neg nlt, r1, uX7_parameters_37, e56, if_neg nlt]
          rw [← e56, r2']
          have hth1 : ∀ z : tS, TH [50, 56] [] [39, 51, 53, 54, 57] [52] z (shT (prT z u (tL s 12) (od + tA s 39 u)) (cnt s 50)) := fun z => TH_trans (TH_wk (by decide) (prT_th z u (tL s 12) (od + tA s 39 u))) (TH_wk (YI := [56]) (YL := []) (YA := [57]) (YB := []) (by decide) (TH_I (by simp) (TH_A (by simp) (TH_refl _ _ _ _ _))))
          have hths := hth1 s
          have hthq := hth1 q
          have hsh57 : ∀ i, i < cnt s 56 → tA (shT (prT s u (tL s 12) (od + tA s 39 u)) (cnt s 50)) 57 i = tA s 57 i := fun i hi => by
            show tA (tsA (prT s u (tL s 12) (od + tA s 39 u)) 57 (cnt s 56) (Int32.ofNat (cnt s 50))) 57 i = _
            rw [t_A_A, if_neg (fun w => by omega)]
            exact th_A (prT_th s u (tL s 12) (od + tA s 39 u)) (by decide) i
          have hsh39 : ∀ k, k ≠ u → tA (shT (prT s u (tL s 12) (od + tA s 39 u)) (cnt s 50)) 39 k = tA s 39 k := fun k hk => by
            show tA (prT s u (tL s 12) (od + tA s 39 u)) 39 k = _
            exact prT_39 s u _ _ hk
          have e56s : tI s 56 = Int32.ofNat (cnt s 56) := hPI.1.2.2.2.1.2.2.2.2.2.2.2.1.2.2.1.1.1
          have hsh56 : cnt s 56 ≤ cnt (shT (prT s u (tL s 12) (od + tA s 39 u)) (cnt s 50)) 56 := by
            have e : tI (shT (prT s u (tL s 12) (od + tA s 39 u)) (cnt s 50)) 56 = Int32.ofNat (cnt s 56 + 1) := by
              show tI (tsI _ 56 (tI s 56 + 1)) 56 = _
              rw [t_I_I, if_pos rfl, e56s]
              exact z_add _ 1
            rw [cnt_of e (by omega)]; omega
          have hm8 : tI (shT (prT s u (tL s 12) (od + tA s 39 u)) (cnt s 50)) 8 = 1 := (th_I hths (by decide)).trans hn1s
          have h5050 : cnt s 50 ≤ cnt (shT (prT s u (tL s 12) (od + tA s 39 u)) (cnt s 50)) 50 := hKT2.1 50 (by simp)
          generalize shT (prT s u (tL s 12) (od + tA s 39 u)) (cnt s 50) = s2 at *
          generalize shT (prT q u (tL s 12) (od + tA s 39 u)) (cnt s 50) = w2 at *
          obtain ⟨_, _, hr2, h8002, h8052, hvL2, hw2, hl2, hlen2, _, _, _, _, _, _, _, hlenU2⟩ := PI_fc hPI2
          obtain ⟨hLX2, hfi2, _, _, _⟩ := PI_q hPI2
          obtain ⟨lx1, lx2⟩ := VQ_lex hPI2.2.1
          have hff : f ≤ n := by
            have := hLX.1.2.2.2.2.2.2.1
            have := hLX.2.1
            omega
          rw [r_cgR, if_pos hr2, h8002]
          rcases P_nextV (dc + 10) (dt + 10) hPI2.1 hfi2 lx1 lx2 with hb | ⟨c3, w3, p3, f3, e5, e6, hz3, hW3, h8033⟩
          · left
            refine pN_lx hb (f1 := f) (by omega) (by omega) (fun a c' w => by rw [w]; rfl) (fun s' w1 w2 => ?_)
            rw [w1, b_V, F_isSign (dt + 28) _ w2, b_I, if_pos rfl, uX7_parameters_16, if_pos rfl]
            exact ⟨_, rfl, rfl, rfl⟩
          · rw [e5, e6, b_V, b_V]
            obtain ⟨hPI3, hPQ3, hsl3⟩ := PI_st hPI2 hz3 hW3 h8033
            obtain ⟨m1, m2, m3⟩ := hsl3 (by rw [hm8]; decide)
            have h393 : ca (ov w3 s2) 39 u = ca s 39 u + 1 := h392
            have hPQa : PQ n r lu u vo f c q s (fun v => if v = cnt s 50 then cNx c else vo v) f3 c3 w3 (ov w3 s2) := by
              obtain ⟨h1, h2, h3, h4, h5, h6, h7, h8, h9, h10, h11, h12', h13, h14⟩ := hPQ3
              refine ⟨KC_trans (by rw [hlenU, hlenU2]; exact hKT2.1 35 (by simp)) hKC2 h1, KT_trans hKT2 h2, TH_trans (TH_wk (by decide) hths) h3, fun i hi => (h4 i (by omega)).trans (hsh57 i hi), by omega, fun v hv => if_neg (by omega), by omega, fun b w => h8 b (hraw2 b w), by omega, by omega, by omega, h12'.trans h8032, fun k hk => (h13 k hk).trans (hsh39 k hk), TH_trans (TH_wk (by decide) hthq) h14⟩
            have hp3 : p ≤ f3 := hW3.2.1
            generalize ov w3 s2 = s3 at *
            obtain ⟨hLX3s, _, hr3, h8003, h8053, hvL3, hw3, hl3, hlen3, _, _, _, _, _, _, _, hlenU3⟩ := PI_fc hPI3
            obtain ⟨hLX3, hfi3, _, _, _⟩ := PI_q hPI3
            obtain ⟨lx3, lx4⟩ := VQ_lex hPI3.2.1
            rw [r_cgR, if_pos hr3, h8003, c_passE (dc + 16) 44 hw3, t_isSign (dt + 28)]
            simp only [lx_sgn hLX3 (x := 44) (by decide), hfi3, true_and]
            by_cases hq : tI w3 8 = 5 ∧ tI w3 11 = 44
            · rw [if_pos hq, decide_eq_true hq, bi_t, b_I, if_neg n10]
              rcases P_nextV (dc + 9) (dt + 10) hPI3.1 hfi3 lx3 lx4 with hb | ⟨c4, w4, p4, f4, e7, e8, hz4, hW4, h8034⟩
              · left
                refine pN_lx hb (f1 := f3) (by omega) (by omega) (fun a c' w => by rw [w]; rfl) (fun s' w1 w2 => ?_)
                rw [w1, b_V, uX7_parameters_16, if_neg n10, F_isName (dt + 27) w2, b_I, if_pos rfl]
                exact ⟨_, rfl, rfl, rfl⟩
              · obtain ⟨hPI4, hPQ4, hsl4⟩ := PI_st hPI3 hz4 hW4 h8034
                have h394 : ca (ov w4 s3) 39 u = ca s 39 u + 1 := h393
                have hp4 : p3 ≤ f4 := hW4.2.1
                have w9 := hPQ4.2.2.2.2.2.2.2.2.1
                have w10 := hPQ4.2.2.2.2.2.2.2.2.2.1
                have hPQb := PQ_trans (by
                  have e1 : (cLs c (r + 8)).length = cnt s 35 := hlenU
                  have e2 : (cLs c3 (r + 8)).length = cnt s3 35 := hlenU3
                  rw [e1, e2]; exact hPQa.2.1.1 35 (by simp)) hPQa hPQ4
                rw [e7, e8, b_V, b_V, b_I]
                have hf34 : f3 ≤ p3 := hLX3.2.1
                have hlenU4 := (PI_fc hPI4).2.2.2.2.2.2.2.2.2.2.2.2.2.2.2.2
                have hfp4 := (PI_fc hPI4).1.2.1
                rcases ih _ p4 f4 c4 w4 _ hPI4 (by omega) (by omega) (by omega) with hb | ⟨c5, w5, s5, p5, f5, vo5, g1, g2, g3, g4, g5⟩
                · left; exact hb
                · right
                  refine ⟨c5, w5, s5, p5, f5, vo5, g1, g2, g3, PQ_trans (by
                    have e1 : (cLs c (r + 8)).length = cnt s 35 := hlenU
                    have e2 : (cLs c4 (r + 8)).length = _ := hlenU4
                    rw [e1, e2]; exact hPQb.2.1.1 35 (by simp)) hPQb g4, ?_⟩
                  omega
            · rw [if_neg hq, decide_eq_false hq, bi_f, b_I, b_I, if_pos rfl, uX8_parameters_13, if_pos rfl, uX7_parameters_16, if_pos rfl]
              right
              exact ⟨c3, w3, s3, p3, f3, _, rfl, rfl, hPI3, hPQa, hp3⟩
      · left
        have em : cC (dc + 30) 803 [eR (.ref r), eI 0, eI 4] c = some (.inr (.ref (cNx c)), wH c 4 (cI c 1005 (r + 16))) := (c_must (dc + 16) false 4 hr h800 hw hl).trans (if_neg (by decide))
        have h56 : Int32.ofNat (cnt s 56) = (12 : Int32) := by rw [show cnt s 56 = 12 by omega]; rfl
        rw [if_neg (fun w => hlt (Eq.mp q12 w)), em, b_Vx, if_pos h56, t_fails (dt + 28), b_V]
        exact pN_mis hLX hfi 4 (by decide) k1 k2 (s1 := fH q 4 (tI q 9)) rfl rfl rfl ⟨z4, z5⟩
    · left
      rw [if_neg hn1, b_Lx, if_neg hn1, b_I, if_pos rfl]
      exact pN_mis hLX hfi 1 (by decide) k1 k2 (s1 := fH q 1 (if tI q 8 = 0 then tI q 4 else tI q 9)) rfl rfl rfl ⟨y2, y3⟩
/-- parameters behind the bracket -/
theorem J_params (dc dt : Nat) (hn13 : n ≤ 1280) {u lu b0 : Nat} {od : Int32} {c0 : cS} {f0 : Nat} {vo : Nat → Nat} {p f : Nat} {c : cS} {q s : tS} (hPI : PI χ n t r u lu b0 od Op Oa Ou E O vo p f c q s) (hb0 : b0 = cnt s 56) (h39 : ca s 39 u = 0) (k1 : cNx c + 300 * (n - f) ≤ cNx c0 + 300 * (n - f0)) (k2 : cSl c + 2000 * (n - f) ≤ cSl c0 + 2000 * (n - f0)) :
    pN n f0 c0 (cC (dc + 31) 812 [eR (.ref r), eR (.ref lu)] c) (bI (cT (dt + 30) 7 [eR (.ref 0)] q) fun v3 h2 => if v3 = 0 then some (.inl none, h2) else bI (cT (dt + 30) 27 [eR (.ref 0), eI 41] h2) fun v5 h4 => if v5 = 0 then fX7_parameters_16 (cT (dt + 30)) (Int32.ofNat u) od (tI q 56) 1 h4 else some (.inl none, h4)) ∨ ∃ c' q' s' p' f' vo', cC (dc + 31) 812 [eR (.ref r), eR (.ref lu)] c = some (.inl none, c') ∧ (bI (cT (dt + 30) 7 [eR (.ref 0)] q) fun v3 h2 => if v3 = 0 then some (.inl none, h2) else bI (cT (dt + 30) 27 [eR (.ref 0), eI 41] h2) fun v5 h4 => if v5 = 0 then fX7_parameters_16 (cT (dt + 30)) (Int32.ofNat u) od (tI q 56) 1 h4 else some (.inl none, h4)) = some (.inl none, q') ∧ PI χ n t r u lu b0 od Op Oa Ou E O vo' p' f' c' q' s' ∧ PQ n r lu u vo f c q s vo' f' c' q' s' ∧ (p ≤ f' ∨ f' = f ∧ p' = p) := by
  obtain ⟨_, _, hr, h800, h805, hvL, hw, hl, hlen, h12, e56, hu60, hcu, h1607, _, _, _⟩ := PI_fc hPI
  obtain ⟨hLX, hfi, _, _, _⟩ := PI_q hPI
  rw [kX8_parameters, r_cck, if_pos hr, uX8_parameters, r_cgR, if_pos hr, h805, c_len (dc + 21) hvL rfl, b_I, hlen, r_cgR, if_pos hr, h800, c_isSign (dc + 29) 41 hw, b_I, t_fine (dt + 29), b_I, t_isSign (dt + 28), e56]
  simp only [lx_sgn hLX (x := 41) (by decide), hfi, decide_true, bi_t, n10, if_false, true_and, b_I]
  by_cases hq : tI q 8 = 5 ∧ tI q 11 = 41
  · rw [decide_eq_true hq, bi_t, if_neg n10, uX8_parameters_13, if_pos rfl, if_neg n10]
    right
    exact ⟨c, q, s, p, f, vo, rfl, rfl, hPI, PQ_refl n r lu u vo f c q s, Or.inr ⟨rfl, rfl⟩⟩
  · rw [decide_eq_false hq, bi_f, if_pos rfl, if_pos rfl, ← hb0]
    rcases par_loop dc dt hn13 3 vo p f c q s hPI (by omega) k1 k2 with hb | ⟨c', q', s', p', f', vo', g1, g2, g3, g4, g5⟩
    · left; exact hb
    · right; exact ⟨c', q', s', p', f', vo', g1, g2, g3, g4, Or.inl g5⟩
end
