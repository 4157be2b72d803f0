set_option maxRecDepth 100000
set_option maxHeartbeats 4000000
/-! D75: what the reference's words write, behind a fault too; a dot and a name -/
section
variable {s s' : tS}
theorem TH_fH {k pl : Int32} (h : TH [6, 7, 8, 9, 10, 11, 14, 15] [12] [] [13] s s') : TH [6, 7, 8, 9, 10, 11, 14, 15] [12] [] [13] s (fH s' k pl) := by
  unfold fH
  split
  · exact TH_I (by simp) (TH_I (by simp) (TH_I (by simp) h))
  · exact TH_I (by simp) h
theorem TH_fB {F : Nat → Int64} (h : TH [6, 7, 8, 9, 10, 11, 14, 15] [12] [] [13] s s') : TH [6, 7, 8, 9, 10, 11, 14, 15] [12] [] [13] s (tfB s' 13 F) := by
  obtain ⟨h1, h2, h3, h4⟩ := h
  exact ⟨h1, h2, h3, fun x j hx => by rw [tfB_B, if_neg (by simpa using hx)]; exact h4 x j hx⟩
theorem TH_L {YI YL YA YB : List Nat} {x : Nat} {v : Int64} (hx : x ∈ YL) (h : TH YI YL YA YB s s') : TH YI YL YA YB s (tsL s' x v) := by
  obtain ⟨h1, h2, h3, h4⟩ := h
  exact ⟨h1, fun y hy => by rw [t_L_L, if_neg (by rintro rfl; exact hy hx)]; exact h2 y hy, h3, h4⟩
theorem t_next_fr {χ : Nat → Int32} {n p m : Nat} (e : Nat) (hX : TX χ n s) (hv : ∀ k, k < n → ∃ j, j < 256 ∧ χ k = Int32.ofNat j) (hm : m ≤ 5) (s4 : tI s 16 = Int32.ofNat m) (hfi : tI s 6 = 0) (hp : p ≤ n) (hto : tI s 10 = Int32.ofNat p) (h : cT (e + 20) 6 [eR (.ref 0)] s = some (.inl none, s')) :
    TH [6, 7, 8, 9, 10, 11, 14, 15] [12] [] [13] s s' := by
  have h8 := hX.2.2.2
  rw [t_next0 (χ := χ) e hX hfi hp hto rfl] at h
  have hfl := (xSk_le (χ := χ) n false p hp).2
  generalize xSk χ n n false p = f at h hfl
  have hXt : TX χ n (t1H s f) := TX_I (by decide) (TX_I (by decide) hX)
  have e3 : tI (t1H s f) 10 = Int32.ofNat f := by simp [t1H, gT]
  have e4 : tI (t1H s f) 9 = Int32.ofNat f := by simp [t1H, gT]
  have g0 : TH [6, 7, 8, 9, 10, 11, 14, 15] [12] [] [13] s (t1H s f) := TH_I (by simp) (TH_I (by simp) (TH_refl _ _ _ _ s))
  by_cases q1 : χ f = -1
  · rw [if_pos q1] at h; cases h
    exact TH_I (by simp) g0
  rw [if_neg q1] at h
  have hfn : f < n := Nat.lt_of_not_le (fun r => q1 (h8 f r))
  by_cases q2 : aL (χ f) = true
  · rw [if_pos q2, bV_id (t_word (χ := χ) (e + 6) hXt (by omega) e3 e4 (p := xW χ n f) rfl)] at h
    cases h
    split
    · exact TH_fH (TH_I (by simp) (TH_L (by simp) g0))
    · exact TH_I (by simp) (TH_I (by simp) (TH_I (by simp) (TH_L (by simp) g0)))
  rw [if_neg q2] at h
  by_cases q4 : aD (χ f) = true
  · rw [if_pos q4, bV_id (t_number (χ := χ) (e + 16) hXt (by omega) e3 e4)] at h
    cases h
    split
    · exact TH_fH (TH_I (by simp) g0)
    · exact TH_I (by simp) (TH_I (by simp) (TH_I (by simp) g0))
  rw [if_neg q4] at h
  by_cases q6 : χ f = 47
  · rw [if_pos q6] at h
    generalize hx : xP χ n m n f true [] = q at *
    obtain ⟨q, b, l⟩ := q
    have hxb := xP_b (χ := χ) (m := m) h8 n f true [] (by omega) (Nat.zero_le _)
    rw [hx] at hxb
    simp only at hxb
    have hn3 := hX.2.1
    obtain ⟨F2, z1, z2⟩ := t_path (χ := χ) (e + 15) hm hXt (by simp [t1H, gT, s4]) (by omega) q6 e3 e4 q b l hx (by omega)
    rw [bV_id z2] at h
    cases h
    have g1 : TH [6, 7, 8, 9, 10, 11, 14, 15] [12] [] [13] s (tpH (t1H s f) F2 l.length (xT χ q) (if xT χ q = 0 then q else q + 2)) := TH_I (by simp) (TH_I (by simp) (TH_I (by simp) (TH_fB g0)))
    split
    · exact TH_fH g1
    · exact TH_I (by simp) g1
  rw [if_neg q6] at h
  obtain ⟨k, hk, ek⟩ := hv f hfn
  rw [ek, bV_id (t_sign (χ := χ) (e + 15) hXt hfn e3 e4 hk)] at h
  cases h
  have g1 : TH [6, 7, 8, 9, 10, 11, 14, 15] [12] [] [13] s (tsI (tsI (tsI (t1H s f) 10 (Int32.ofNat (f + 1))) 8 5) 11 (Int32.ofNat k)) := TH_I (by simp) (TH_I (by simp) (TH_I (by simp) g0))
  split
  · exact TH_I (by simp) (TH_I (by simp) g1)
  · split
    · exact TH_fH g1
    · exact g1
variable {χ : Nat → Int32} {n t r p f : Nat} {vo : Nat → Nat} {Op Oa Ou : Nat → Prop} {E O : Nat} {c : cS}
theorem P_next_fr (e : Nat) (h : RP χ n t r p f vo Op Oa Ou E O c s) (h1 : cT (e + 20) 6 [eR (.ref 0)] s = some (.inl none, s')) : TH [6, 7, 8, 9, 10, 11, 14, 15] [12] [] [13] s s' := by
  obtain ⟨hW, hX, hK, _, _, ⟨m1, m2, m3⟩, ⟨p1, p2, p3⟩⟩ := h.1.1
  exact t_next_fr e hX (fun k hk => by
    rw [← hW.2.2.2.2.2.2.1 k hk]
    exact and255 _) m1 m3 h.2.1 p1 p3 h1
end
section
variable {χ : Nat → Int32} {n t r p f : Nat} {vo : Nat → Nat} {Op Oa Ou : Nat → Prop} {E O : Nat} {c : cS} {s : tS}
variable {f0 p0 : Nat} {c0 : cS} {vq : Nat → Nat} {Opq Oaq Ouq : Nat → Prop} {Eq' Oq' : Nat} {sq : tS} {Hq Dq : Nat} {kN : Int64 → Int32 → cS → cRes} {kT kT0 : Int32 → tS → tR}
/-- a part, a dot, a name, the next word -/
theorem J_dotn (dc dt : Nat) {z : Int32} (hR : RP χ n t r p f vo Op Oa Ou E O c s) (k1 : cNx c + 300 * (n - f) ≤ cNx c0 + 300 * (n - f0)) (k2 : cSl c + 2000 * (n - f) ≤ cSl c0 + 2000 * (n - f0)) (h8 : tI s 8 ≠ 0) (hF0 : ∀ y, FH (kT0 y))
    (hF1 : ∀ v s', tI s' 6 ≠ 0 → tI s' 65 = tI s 65 → ∃ q s'', bI (kT v s') kT0 = some (.inl (some (eI q)), s'') ∧ tI s'' 6 = tI s' 6 ∧ tI s'' 7 = tI s' 7)
    (hgo : ∀ a b k c' s' p' f', nm a b → RP χ n t r p' f' vo Op Oa Ou (E + 60) O c' s' → KC r c c' → KT s s' → (∀ y, y < cnt s 65 → ∀ z, z ∈ [66, 67, 68, 69, 70, 71, 72] → tA s' z y = tA s z y) → cnt s' 65 = cnt s 65 → cnt s' 62 = cnt s 62 + 1 → KS s s' → (∀ b, raw c b → raw c' b) → f < f' → p ≤ f' → cNx c' + 590 + 300 * (n - f') ≤ cNx c + 300 * (n - f) → cSl c' + 2900 + 2000 * (n - f') ≤ cSl c + 2000 * (n - f) → k < cnt s' 60 → k ≤ 399 → tB s' 61 k = b → PX χ n t r f0 p0 vq Opq Oaq Ouq Eq' Oq' c0 sq Hq Dq (kN a (Int32.ofNat k) c') (bI (kT (Int32.ofNat k) s') kT0)) :
    PX χ n t r f0 p0 vq Opq Oaq Ouq Eq' Oq' c0 sq Hq Dq (bV (cC (dc + 31) 818 [eR (.ref r)] c) fun h18 => cgR h18 800 (.ref r) fun v19 => bV (cC (dc + 31) 1001 [eR v19] h18) fun h20 => bL (cC (dc + 31) 806 [eR (.ref r)] h20) fun v22 h21 => cgR h21 801 (.ref r) fun v23 => bI (cC (dc + 31) 904 [eR v23, eL v22] h21) fun v25 h24 => cgR h24 800 (.ref r) fun v26 => bV (cC (dc + 31) 1001 [eR v26] h24) (kN v22 v25))
      (bI (bI (cT (dt + 31) 46 [eR (.ref 0)] s) fun v2 h1 => if v2 = 0 then some (.inl (some (eI z)), h1) else bV (cT (dt + 31) 6 [eR (.ref 0)] h1) fun h3 => bI (cT (dt + 31) 29 [eR (.ref 0)] h3) fun v5 h4 => if v5 = 0 then some (.inl (some (eI z)), h4) else bI (cT (dt + 31) 75 [eR (.ref 0), eL (tL h4 12)] h4) fun v7 h6 => bV (cT (dt + 31) 6 [eR (.ref 0)] h6) (kT v7)) kT0) := by
  rcases P_part (dc + 16) (dt + 28) hR with ⟨a9, c9, s9, k9, pl9, w1, w2, w3, w4, w5, w6, w7, w8⟩ | ⟨e1, e2, hR1, hST1, hc62⟩
  · left
    obtain ⟨q, s'', q1, q2, q3⟩ := hF0 z s9 (by rw [w4]; exact w6)
    rw [w1, w2, b_Vx, b_I, if_pos rfl, b_I, q1]
    exact ⟨a9, c9, q, s'', k9, pl9, rfl, rfl, w3, by rw [q2]; exact w4, by rw [q3]; exact w5, w6, by omega, by omega⟩
  have n1 : cNx (ptC c r) = cNx c := rfl
  have n2 : cSl (ptC c r) = cSl c := rfl
  rw [e1, b_V, RP_800 hR1, e2, b_I, if_neg (by decide), a_IV]
  rcases P_next (dc + 11) (dt + 11) hR1 with hb | ⟨c2, s2, p2, f2, e3, e4, hW2⟩
  · left
    exact j_lx hb (f1 := f) (by omega) (by omega) (fun s' q2 => by
      rw [F_isName (dt + 28) q2, b_I, if_pos rfl, b_I]
      exact hF0 _ s' q2)
  have hR2 := hW2.1
  have hS2 := hR2.2.2.2.1.1
  have hw2 := hR2.1.1.1.1
  have hl2 := hR2.1.1.2.2.2.2.1.1
  obtain ⟨hT2, hT2'⟩ := WK_ST hR1 hW2
  obtain ⟨m1, m2, m3⟩ := hT2' h8
  have hth2 := hW2.2.2.2.1
  rw [e3, e4, b_V, b_V, c_name (dc + 16) hS2.1 hS2.2.1 hw2 hl2, t_isName (dt + 28), if_pos hR2.2.1, hR2.1.2.2.2.2.1]
  by_cases h1 : tI s2 8 = 1
  · rw [if_pos h1, if_pos h1, b_L, r_cgR, if_pos hS2.1, hS2.2.2.1, b_I, if_neg (by decide)]
    have hab := (lw_1 hR2.1.2.2.2.2.2 h1).2
    have c62 : cnt s2 62 = cnt s 62 + 1 := (th_cnt hth2 (by decide)).trans hc62
    have c60 : cnt s2 60 = cnt s 60 := th_cnt hth2 (by decide)
    have h60 := hR.2.2.2.1.2.1.2.2.2.1.2.1
    obtain ⟨c3, s3, k, e5, e6, hR3, hK3, hT3, hth3, hraw3, n3, sl3, hk, hk9, hb⟩ := P_nam (dc + 21) (dt + 30) hab hR2 (by omega)
    rw [e5, b_I, RP_800 hR3, e6, b_I, a_IV]
    rcases P_next (dc + 11) (dt + 11) hR3 with hb' | ⟨c4, s4, p4, f4, e7, e8, hW4⟩
    · left
      obtain ⟨a9, c9, s9, k9, pl9, v1, v2, v3, v4, v5, v6, v7, v8⟩ := hb'
      have hfr := P_next_fr (dt + 11) hR3 v2
      obtain ⟨q, s'', q1, q2, q3⟩ := hF1 (Int32.ofNat k) s9 (by rw [v4]; exact v6) (by rw [th_I hfr (by decide), th_I hth3 (by decide), th_I hth2 (by decide)]; rfl)
      rw [v1, v2, b_Vx, b_V, q1]
      exact ⟨a9, c9, q, s'', k9, pl9, rfl, rfl, v3, by rw [q2]; exact v4, by rw [q3]; exact v5, v6, by omega, by omega⟩
    obtain ⟨hT4, hT4'⟩ := WK_ST hR3 hW4
    obtain ⟨m4, m5, m6⟩ := hT4' (by rw [th_I hth3 (by decide), h1]; decide)
    have hth4 := hW4.2.2.2.1
    have l12 : (cLs (ptC c r) (r + 8)).length ≤ (cLs c2 (r + 8)).length := ST_len hR1 hR2 hT2
    have l23 : (cLs c2 (r + 8)).length ≤ (cLs c3 (r + 8)).length := by rw [RP_len hR2, RP_len hR3]; exact hT3.1 35 (by simp)
    have hp2 := hW2.2.1
    rw [e7, e8, b_V, b_V]
    refine hgo _ _ k c4 s4 p4 f4 hab hW4.1 (KC_trans (show (cLs c (r + 8)).length ≤ (cLs (ptC c r) (r + 8)).length from Nat.le_refl _) hST1.1 (KC_trans l12 hT2.1 (KC_trans l23 hK3 hT4.1))) (KT_trans hST1.2.1 (KT_trans hT2.2.1 (KT_trans hT3 hT4.2.1))) (fun y _ z _ => (th_A hth4 (by simp) y).trans ((th_A hth3 (by simp) y).trans ((th_A hth2 (by simp) y).trans rfl))) ((th_cnt hth4 (by decide)).trans ((th_cnt hth3 (by decide)).trans ((th_cnt hth2 (by decide)).trans rfl))) ((th_cnt hth4 (by decide)).trans ((th_cnt hth3 (by decide)).trans c62)) (KS_trans (KS_pt s) (KS_trans (KS_th hth2 (by decide)) (KS_trans (KS_th hth3 (by decide)) (KS_th hth4 (by decide))))) (fun b q => hT4.2.2.2.2.2.2 b (hraw3 b (hT2.2.2.2.2.2.2 b (hST1.2.2.2.2.2.2 b q)))) (by omega) (by omega) (by omega) (by omega) (by rw [th_cnt hth4 (by decide)]; exact hk) hk9 ((th_B hth4 (by simp) k).trans hb)
  · rw [if_neg h1, if_neg h1, b_Lx, b_I, if_pos rfl, b_I]
    left
    obtain ⟨z1, z2, z3, _, _⟩ := lx_mis hR2.1 hR2.2.1 1 (by decide)
    obtain ⟨y, s'', g1, g2, g3⟩ := hF0 z (fH s2 1 (if tI s2 8 = 0 then tI s2 4 else tI s2 9)) (fH_ne (by decide))
    exact j_mis hR2 1 (by decide) (by omega) (by omega) g1 g2 g3 ⟨z2, z3⟩
end
