set_option maxRecDepth 100000
set_option maxHeartbeats 4000000
/-! D50: a name is bound -/
section
variable {χ : Nat → Int32} {n t r : Nat} {Oa Ou : Nat → Prop} {O : Nat}
/-- a fault of the word at hand, both sides alike -/
theorem j_mis {f0 f p : Nat} {vo : Nat → Nat} {Op : Nat → Prop} {E : Nat} {c c0 : cS} {s : tS} (h : RP χ n t r p f vo Op Oa Ou E O c s) (k : Int32) (hk : k ≠ 0) (h1 : cNx c + 300 * (n - f) ≤ cNx c0 + 300 * (n - f0)) (h2 : cSl c + 2000 * (n - f) ≤ cSl c0 + 2000 * (n - f0)) {s1 : tS} {rt : tR} {y : Int32} {s' : tS} (hrt : rt = some (.inl (some (eI y)), s')) (h6 : tI s' 6 = tI s1 6) (h7 : tI s' 7 = tI s1 7) (hs1 : (tI s1 6 = k ∧ tI s1 7 = Int32.ofNat f)) : pB n f0 c0 (some (.inr (.ref (cNx c)), wH c k (cI c 1005 (r + 16)))) rt := by
  obtain ⟨g1, _⟩ := lx_mis h.1 h.2.1 k hk
  exact ⟨cNx c, _, y, s', k, Int32.ofNat f, rfl, hrt, g1, by rw [h6]; exact hs1.1, by rw [h7]; exact hs1.2, hk, by rw [(wH_nx _ _ _).1]; omega, by rw [(wH_nx _ _ _).2]; omega⟩
theorem RP_debt {O' p f : Nat} {vo : Nat → Nat} {Op : Nat → Prop} {E : Nat} {c : cS} {s : tS} (h : RP χ n t r p f vo Op Oa Ou E O c s) (hN : RNt O' f s) : RP χ n t r p f vo Op Oa Ou E O' c s := ⟨h.1, h.2.1, h.2.2.1, h.2.2.2.1, hN, h.2.2.2.2.2⟩
theorem BS_debt {O' f0 p f : Nat} {vo0 vo : Nat → Nat} {Op : Nat → Prop} {E X N K : Nat} {L : List cE} {c0 c : cS} {s0 s : tS} (h : BS χ n t r f0 vo0 Op Oa Ou E X O c0 s0 N K L p f vo c s) (hN : RNt O' f s) : BS χ n t r f0 vo0 Op Oa Ou E X O' c0 s0 N K L p f vo c s := ⟨RP_debt h.1 hN, h.2⟩
section
variable {f0 p0 : Nat} {vo0 : Nat → Nat} {Op : Nat → Prop} {E X N K p f : Nat} {L : List cE} {c0 c : cS} {s0 s : tS} {vo : Nat → Nat} {vq : Nat → Nat} {Opq Oaq Ouq : Nat → Prop} {Eq' Oq' : Nat} {sq : tS} {Hq Dq : Nat} {kT : tS → tR}
theorem B_bind (dc dt : Nat) {O1 ff : Nat} {kR : Value → cS → cRes} (hn13 : n ≤ 1280) (hz : (cLs c0 (r + 8)).length = cnt s0 35) (hB : BS χ n t r f0 vo0 Op Oa Ou E X O c0 s0 N K L p f vo c s) (hff : RNt O ff s) (hf3 : ff + 6 + O ≤ f + O1) (hO' : O1 + 1 ≤ 4 * cnt s 63) (hF : FH kT)
    (hgo : ∀ c' s' p' f' vo' o, BS χ n t r f0 vo0 Op Oa Ou E X O1 c0 s0 N K L p' f' vo' c' s' → cnt s' 50 = cnt s 50 + 1 → vo' (cnt s 50) = o → useOK r c' s' (cnt s0 64) (cnt s 50) o → cR c' 1702 o = .null → tA s' 51 (cnt s 50) = Int32.ofNat (cnt s0 64) → nm (cL c' 1700 o) (tB s' 52 (cnt s 50)) → tI s' 73 = Int32.ofNat (cnt s 50) → p ≤ f' → f < f' → cNx c' + 300 * (n - f') + 290 ≤ cNx c + 300 * (n - f) → cSl c' + 2000 * (n - f') + 1900 ≤ cSl c + 2000 * (n - f) → (∀ z, z ∈ [66, 67, 68, 69] → tA s' z N = tA s z N) → cnt s 56 < 12 → cnt s' 56 = cnt s 56 → PX χ n t r f0 p0 vq Opq Oaq Ouq Eq' Oq' c0 sq Hq Dq (kR (.ref o) c') (kT s')) :
    PX χ n t r f0 p0 vq Opq Oaq Ouq Eq' Oq' c0 sq Hq Dq (bR (cC (dc + 22) 819 [eR (.ref r)] c) kR) (bV (cT (dt + 21) 48 [eR (.ref 0), eI (tA s 46 (cnt s 64))] (tsA s 46 (cnt s 64) (tA s 46 (cnt s 64) + 1))) kT) := by
  have hR := hB.1
  have hS := hR.2.2.2.1.1
  have hw := hR.1.1.1.1
  have hl := hR.1.1.2.2.2.2.1.1
  have hfi := hR.2.1
  have hvL := RSt_vL hS
  have hI := hR.2.2.2.1.2.2.2.2.2.2.2.1
  have hV := hR.2.2.2.1.2.2.2.2.2.2.1
  have hU := hR.2.2.2.1.2.2.2.2.2.1
  have h12 := hI.2.2.1.1
  have hlen := hI.2.2.1.2.1
  have h64 := hI.1.1.1
  have hu35 := hI.1.2.1
  have h120 := h12.2
  have hc1 : cNx c + 300 * (n - f) ≤ cNx c0 + 300 * (n - f0) := hB.2.1.2.2.2.1
  have hc2 : cSl c + 2000 * (n - f) ≤ cSl c0 + 2000 * (n - f0) := hB.2.1.2.2.2.2.1
  have h1004 : cI c 1004 (r + 16) = tI s 8 := hR.1.2.2.2.2.1
  obtain ⟨_, y2, y3, _, _⟩ := lx_mis hR.1 hfi 1 (by decide)
  obtain ⟨_, _, _, z4, z5⟩ := lx_mis hR.1 hfi 4 (by decide)
  have a1 : tI (tsA s 46 (cnt s 64) (tA s 46 (cnt s 64) + 1)) 6 = 0 := hfi
  rw [kX8_fresh, r_cck, if_pos hS.1, uX8_fresh, c_name (dc + 6) hS.1 hS.2.1 hw hl, h1004]
  by_cases h8 : tI s 8 = 1
  · rw [if_pos h8, b_L, r_cgR, if_pos hS.1, hS.2.2.2.1, c_len (dc + 12) hvL rfl, b_I, hlen]
    simp only [show (12 : Int32) = Int32.ofNat 12 from rfl, z_lt (show cnt s 56 < 2147483648 by omega) (show 12 < 2147483648 by decide)]
    by_cases hlt : cnt s 56 < 12
    · -- it goes on
      have hname := (lw_1 hR.1.2.2.2.2.2 h8).2
      obtain ⟨Lt, l1, l2, l3, l4⟩ := id hff
      have hu46 := (hU.2.2 _ hu35).2.2.2.2.2.2.1.1
      have hO24 := hR.2.2.2.1.2.1.2.1.1.2
      have hfn : f ≤ n := Nat.le_trans hR.1.2.1 hR.1.1.2.2.2.2.2.2.1
      have h35 := hU.1.2
      have hLt : Lt ≤ 198 := by omega
      have h500 : cnt s 50 + 1 ≤ 500 := by omega
      have hN' : RNt (O1 + 1) f (vrT s (cnt s 64) (tL s 12)) := RNt_var hff hV.1 hu46 hu35 (by omega) hO'
      obtain ⟨hR1, hKC1, hKT1, hus, hown, hcu⟩ := P_var hR hname hN' h500 (by have := l1 _ hu35; omega)
      have hth := vrT_th s (cnt s 64) (tL s 12)
      obtain ⟨n1, n2, n3, n4, n5, n6⟩ := vrT_new s (cnt s 64) (tL s 12)
      have c50 := cnt_of (vrT_50 (cnt s 64) (tL s 12) hV.1) (by omega)
      have eKS : KS s (vrT s (cnt s 64) (tL s 12)) := KS_th hth (by decide)
      have hraw1 : ∀ b, raw c0 b → raw (vrC c (lid c (r + 8) (cnt s 64)) (ow s (cnt s 64)) (cL c 1007 (r + 16))) b := fun b q => vr_raw hR.2.2.1 hcu _ _ b (hB.2.1.2.2.2.2.2.2 b q)
      have hnx1 : cNx (vrC c (lid c (r + 8) (cnt s 64)) (ow s (cnt s 64)) (cL c 1007 (r + 16))) = cNx c + 1 := rfl
      have hsl1 : cSl (vrC c (lid c (r + 8) (cnt s 64)) (ow s (cnt s 64)) (cL c 1007 (r + 16))) = cSl c + 4 := rfl
      have g2 : cL (vrC c (lid c (r + 8) (cnt s 64)) (ow s (cnt s 64)) (cL c 1007 (r + 16))) 1700 (cNx c) = cL c 1007 (r + 16) := by simp [vrC, nwC, gC]
      have g3 : cR (vrC c (lid c (r + 8) (cnt s 64)) (ow s (cnt s 64)) (cL c 1007 (r + 16))) 1702 (cNx c) = .null := by simp [vrC, nwC, gC]
      have e1 := c_vadd (dc + 10) (a := cL c 1007 (r + 16)) hcu (hR.2.2.1 _ (Nat.le_refl _)).1 hown
      have em : cC (dc + 21) 803 [eR (.ref r), eI 1, eI 4] c = some (.inl none, c) := (c_must (dc + 7) true 4 hS.1 hS.2.1 hw hl).trans (if_pos rfl)
      rw [if_pos hlt, uX8_fresh_12, em, b_V, r_cgR, if_pos hS.1, hI.1.2.2, e1, b_R, t_binds (dt + 17) hfi h8 h12 hlt h64 hV.1.1 (by omega)]
      generalize vrC c (lid c (r + 8) (cnt s 64)) (ow s (cnt s 64)) (cL c 1007 (r + 16)) = c1 at hR1 hKC1 hus hraw1 hnx1 hsl1 g2 g3 ⊢
      have htok : tI (vrT s (cnt s 64) (tL s 12)) 8 = 1 := h8
      have o6 : ∀ z, z ∈ [66, 67, 68, 69, 70, 71, 72] → ∀ y, tA (vrT s (cnt s 64) (tL s 12)) z y = tA s z y := fun z hz' y => th_A hth (by simp only [List.mem_cons, List.not_mem_nil, or_false] at hz' ⊢; omega) y
      have h64s : cnt s 64 = cnt s0 64 := hB.2.2.2.2.2.1.2.2.2.2
      have c56 : cnt (vrT s (cnt s 64) (tL s 12)) 56 = cnt s 56 := th_cnt hth (by decide)
      generalize vrT s (cnt s 64) (tL s 12) = s1 at hR1 hKT1 hus hth n1 n2 n5 c50 eKS htok o6 c56 ⊢
      -- the next word; the room is paid by it
      rw [RP_800 hR1]
      rcases P_next (dc + 1) dt hR1 with hb | ⟨c2, s3, p3, f3, e5, e6, hW⟩
      · left
        obtain ⟨a9, c9, s9, k9, pl9, w1, w2, w3, w4, w5, w6, w7, w8⟩ := hb
        obtain ⟨q, s'', q1, q2, q3⟩ := hF s9 (by rw [w4]; exact w6)
        refine ⟨a9, c9, q, s'', k9, pl9, ?_, ?_, w3, by rw [q2]; exact w4, by rw [q3]; exact w5, w6, by omega, by omega⟩
        · rw [w1]; rfl
        · rw [w2]; exact q1
      · obtain ⟨hS2, hS3⟩ := WK_ST hR1 hW
        obtain ⟨q1, q2, q3⟩ := hS3 (by rw [htok]; decide)
        have hthW := hW.2.2.2.1
        have oW : ∀ z y, tA s3 z y = tA s1 z y := fun z y => th_A hthW (by simp) y
        have hl12 : (cLs c (r + 8)).length ≤ (cLs c1 (r + 8)).length := by
          rw [RP_len hR, RP_len hR1]; exact hKT1.1 35 (by simp)
        have hB3 := BS_go (X' := X) (vo' := fun v => if v = cnt s 50 then cNx c else vo v) hz hB (RP_debt (O' := O1) hW.1 (RNt_pay (O' := O1) (f' := f3) hR1.2.2.2.2.1 (by omega) (by omega) hthW)) (KC_trans hl12 hKC1 hS2.1) (KT_trans hKT1 hS2.2.1) (fun v hv => if_neg (by omega)) (fun y _ z hz' _ => by rw [oW, o6 z hz' y]) (TH_refl _ _ _ _ s0) (KS_trans hB.2.2.2.2.2.1 (KS_trans eKS (KS_th hthW (by decide)))) (by omega) (by omega) (by have := hB.2.1.2.2.2.2.2.1; omega) (fun b q => hS2.2.2.2.2.2.2 b (hraw1 b q))
        rw [e5, e6, b_V, b_V, b_R, b_V]
        have e50 : cnt s3 50 = cnt s1 50 := th_cnt hthW (by decide)
        have hus2 : useOK r c2 s3 (cnt s0 64) (cnt s 50) (cNx c) := by
          rw [← h64s]
          exact useOK_mono hS2.1 hS2.2.1 (RP_len hR1) (by have := hKT1.1 35 (by simp); omega) (by rw [ca_of n1 (by omega)]; have := hKT1.1 35 (by simp); omega) hus
        refine hgo c2 s3 p3 f3 _ (cNx c) hB3 (by rw [e50, c50]) (if_pos rfl) hus2 ?_ (by rw [oW, n1, h64s]) ?_ (by rw [th_I hthW (by decide)]; exact n5) hW.2.1 q1 (by omega) (by omega) (fun z hz' => by rw [oW, o6 z (by simp only [List.mem_cons, List.not_mem_nil, or_false] at hz' ⊢; omega) N]) hlt (by rw [th_cnt hthW (by decide)]; exact c56)
        · rw [kc_R hS2.1 hus.1 (by decide) (by decide)]; exact g3
        · rw [kc_L hS2.1 hus.1 (by decide) (by decide), th_B hthW (by decide), g2, n2]; exact hname
    · -- too many
      left
      have hne : tI s 56 = (12 : Int32) := by
        rw [show (12 : Int32) = Int32.ofNat 12 from rfl, cok_eq h12 (by decide) (by decide)]; omega
      have em : cC (dc + 21) 803 [eR (.ref r), eI 0, eI 4] c = some (.inr (.ref (cNx c)), wH c 4 (cI c 1005 (r + 16))) := (c_must (dc + 7) false 4 hS.1 hS.2.1 hw hl).trans (if_neg (by decide))
      have a3 : tI (tsA s 46 (cnt s 64) (tA s 46 (cnt s 64) + 1)) 56 = 12 := hne
      have a2 : tI (tsA s 46 (cnt s 64) (tA s 46 (cnt s 64) + 1)) 8 = 1 := h8
      obtain ⟨q, s'', q1, q2, q3⟩ := hF (fH (tsA s 46 (cnt s 64) (tA s 46 (cnt s 64) + 1)) 4 (tI s 9)) (fH_ne (by decide))
      rw [if_neg hlt, uX8_fresh_12, em, b_Vx, b_Rx]
      refine j_mis (y := q) (s' := s'') hR 4 (by decide) hc1 hc2 (s1 := fH s 4 (tI s 9)) ?_ (q2.trans ?_) (q3.trans ?_) ⟨z4, z5⟩
      · rw [kX7_binds, uX7_binds, t_isName, if_pos a1, if_pos a2, b_I, if_neg (by decide), a3, if_pos rfl, t_fails, b_V, b_V]
        exact q1
      · exact ((fH_6 (s := tsA s 46 (cnt s 64) (tA s 46 (cnt s 64) + 1)) (k := 4) (pl := tI s 9) a1).1).trans z4.symm
      · exact ((fH_6 (s := tsA s 46 (cnt s 64) (tA s 46 (cnt s 64) + 1)) (k := 4) (pl := tI s 9) a1).2).trans (((fH_6 (s := s) (k := 4) (pl := tI s 9) hfi).2).symm)
  · -- no name
    left
    have a2 : ¬ tI (tsA s 46 (cnt s 64) (tA s 46 (cnt s 64) + 1)) 8 = 1 := h8
    obtain ⟨q, s'', q1, q2, q3⟩ := hF (fH (tsA s 46 (cnt s 64) (tA s 46 (cnt s 64) + 1)) 1 (if tI s 8 = 0 then tI s 4 else tI s 9)) (fH_ne (by decide))
    rw [if_neg h8, b_Lx, b_Rx]
    refine j_mis (y := q) (s' := s'') hR 1 (by decide) hc1 hc2 (s1 := fH s 1 (if tI s 8 = 0 then tI s 4 else tI s 9)) ?_ (q2.trans ?_) (q3.trans ?_) ⟨y2, y3⟩
    · rw [kX7_binds, uX7_binds, t_isName, if_pos a1, if_neg a2, b_I, if_pos rfl, b_V]
      exact q1
    · exact ((fH_6 (s := tsA s 46 (cnt s 64) (tA s 46 (cnt s 64) + 1)) (k := 1) a1).1).trans y2.symm
    · exact ((fH_6 (s := tsA s 46 (cnt s 64) (tA s 46 (cnt s 64) + 1)) (k := 1) a1).2).trans (((fH_6 (s := s) (k := 1) hfi).2).symm)
end
end
