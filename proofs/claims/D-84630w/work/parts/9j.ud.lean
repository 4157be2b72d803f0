set_option maxRecDepth 100000
set_option maxHeartbeats 4000000
/-! D59: what is under a context -/
/-- a unit that is open: u within w, its object lu -/
def UN (r : Nat) (c : cS) (s : tS) (u w so lu : Nat) : Prop := u < cnt s 35 ∧ tA s 40 u = Int32.ofNat w ∧ w < u ∧ tA s 36 u = Int32.ofNat so ∧ lid c (r + 8) u = lu ∧ cR c 1603 (lid c (r + 8) w) = cR c 1603 lu
section
variable {χ : Nat → Int32} {n t r p f : Nat} {vo : Nat → Nat} {Op Oa Ou : Nat → Prop} {E O : Nat} {c c' : cS} {s s' : tS}
theorem UN_st {u w so lu : Nat} (hR : RP χ n t r p f vo Op Oa Ou E O c s) (hKC : KC r c c') (hKT : KT s s') (h : UN r c s u w so lu) : UN r c' s' u w so lu := by
  obtain ⟨h1, h2, h3, h4, h5, h6⟩ := h
  have hU := hR.2.2.2.1.2.2.2.2.2.1
  have hlid : ∀ k, k < cnt s 35 → lid c' (r + 8) k = lid c (r + 8) k := fun k hk => hKC.2.2.2.2.2.2.2.2 k (by rw [RP_len hR]; exact hk)
  obtain ⟨t1, _, t3, _⟩ := hKT.2.1 u h1
  have c1 := (RUt_cap hU h1).2.2.2
  have c2 := (RUt_cap hU (show w < cnt s 35 by omega)).2.2.2
  refine ⟨Nat.lt_of_lt_of_le h1 (hKT.1 35 (by simp)), by rw [t3]; exact h2, h3, by rw [t1]; exact h4, by rw [hlid u h1]; exact h5, ?_⟩
  rw [h5] at c1
  rw [hlid w (by omega), kc_R hKC c2 (by decide) (by decide), kc_R hKC c1 (by decide) (by decide)]
  exact h6
theorem UN_37 {u w so lu : Nat} (hR : RP χ n t r p f vo Op Oa Ou E O c s) (h : UN r c s u w so lu) : ca s 37 u = ca s 37 w := by
  obtain ⟨h1, h2, h3, h4, h5, h6⟩ := h
  have hU := hR.2.2.2.1.2.2.2.2.2.1
  obtain ⟨_, ⟨_, m1, m2⟩, _⟩ := hU.2.2 w (by omega)
  obtain ⟨_, ⟨_, m3, m4⟩, _⟩ := hU.2.2 u h1
  rw [← h5, m2, m4] at h6
  exact (m_inj hR m1 m3 (Value.ref.inj h6)).symm
end
section
variable {χ : Nat → Int32} {n t r : Nat} {Oa Ou : Nat → Prop} {O : Nat}
variable {f0 p0 : Nat} {vo0 : Nat → Nat} {Op : Nat → Prop} {E X N K p f : Nat} {L : List cE} {c0 c : cS} {s0 s : tS} {vo : Nat → Nat} {vq : Nat → Nat} {Opq Oaq Ouq : Nat → Prop} {Eq' Oq' : Nat} {sq : tS} {Hq Dq : Nat} {kC : cS → cRes} {kT : tS → tR}
theorem B_body (dc dt : Nat) {u lv H D so lu pz Ez Oz : Nat} {kR : Value → cS → cRes} (hR0 : RP χ n t r pz f0 vo0 Op Oa Ou Ez Oz c0 s0) (hB : BS χ n t r f0 vo0 Op Oa (fun k => Ou k ∨ k = u) E X O c0 s0 N K L p f vo c s) (hsub : SP χ n t r Oa (fun k => Ou k ∨ k = u) O lv H D (dc + 30) 829 (dt + 30) 57) (hlv : cnt s0 63 = lv)
    (hUN : UN r c s u (cnt s0 64) so lu) (h44 : ca s 44 u = 0) (hso4 : so ≤ 4) (h42 : so = 3 → tA s 42 u ≠ -1) (hu0 : u = cnt s0 35) (hH : H ≤ 149) (hD : D ≤ 24) (hF : FH kT)
    (hgo : ∀ a c' s' p' f' vo', BS χ n t r f0 vo0 Op Oa Ou E X O c0 s0 N K L p' f' vo' c' s' → p ≤ f' → f ≤ f' → cNx c' + 300 * (n - f') ≤ cNx c + 300 * (n - f) → cSl c' + 2000 * (n - f') ≤ cSl c + 2000 * (n - f) → KC r c c' → KT s s' → (∀ z, z ∈ [66, 67, 68, 69] → tA s' z N = tA s z N) → UN r c' s' u (cnt s0 64) so lu → 1 ≤ H → PX χ n t r f0 p0 vq Opq Oaq Ouq Eq' Oq' c0 sq Hq Dq (kR (.ref a) c') (kT s')) :
    PX χ n t r f0 p0 vq Opq Oaq Ouq Eq' Oq' c0 sq Hq Dq (bR (cC (dc + 31) 828 [eR (.ref r), eR (.ref lu)] c) kR) (bV (cT (dt + 31) 59 [eR (.ref 0), eI (Int32.ofNat u)] s) kT) := by
  have hU0 := hR0.2.2.2.1.2.2.2.2.2.1
  have hV0 := hR0.2.2.2.1.2.2.2.2.2.2.1
  have hI0 := hR0.2.2.2.1.2.2.2.2.2.2.2.1
  obtain ⟨_, _, _, _, _, hOu, hOp, hOa, hOu2⟩ := hR0
  obtain ⟨h1, h2, h3, h4, h5, h6⟩ := id hUN
  have hz : (cLs c0 (r + 8)).length = cnt s0 35 := hU0.2.1.1
  rw [← h5]
  refine B_within dc dt hz hB hsub hlv h1 h2 h3 (UN_37 hB.1 hUN) (fun q => by have := hOu2 u q; omega) h44 (fun q => h42 (by rw [h4] at q; exact Eq.mp (show (Int32.ofNat so = Int32.ofNat 3) = (so = 3) from z_eq (by omega) (by decide)) q)) (by omega) hOu (fun k q => hOu2 k q) hOp (fun i hi => ?_) hH hD hF (fun a c' s' p' f' vo' hB' m1 m2 m3 m4 hKC hKT m5 m6 hH1 => hgo a c' s' p' f' vo' hB' m1 m2 m3 m4 hKC hKT m5 (UN_st hB.1 hKC hKT hUN) hH1)
  obtain ⟨k1, k2, k3, k4, k5⟩ := hB.2.2.2.2.2.1
  have hi0 : i < cnt s0 56 := by omega
  obtain ⟨_, g2, _⟩ := hI0.2.2.1.2.2 i hi0
  rw [ca_eq (k3 i hi0), ca_eq (hB.2.1.2.1.2.2.1 _ g2).1]
  have := (hV0.2.1 _ g2).2.2.1
  omega
/-- a unit and its node are begun, then the next word -/
theorem B_openX (dc dt : Nat) {so : Nat} {kR : Value → cS → cRes} {kN : Int32 → Int32 → tS → tR} {ki so' : Int32} (hso : 1 ≤ so ∧ so ≤ 4 ∧ so ≠ 3) (hK : K ≤ 42) (hki : ki = Int32.ofNat K) (hso' : so' = Int32.ofNat so) (hR0 : RP χ n t r p f vo Op Oa Ou E O c s) (hR1 : RP χ n t r p f vo Op Oa Ou (E + 60) O (ptC c r) (ptT s)) (hST1 : ST n r f c s f (ptC c r) (ptT s)) (h62 : cnt (ptT s) 62 = cnt s 62 + 1)
    (hlt : cnt s 35 < 60) (h8 : tI s 8 ≠ 0) (hF : FH (kN (Int32.ofNat (cnt s 35)) (Int32.ofNat (cnt s 65))))
    (hgo : ∀ c' s' p' f' lu, BS χ n t r f vo Op Oa (fun k => Ou k ∨ k = cnt s 35) E 60 O c s (cnt s 65) K [] p' f' vo c' s' → p ≤ f' → f < f' → cNx c' + 300 * (n - f') + 280 ≤ cNx c + 300 * (n - f) → cSl c' + 2000 * (n - f') + 1700 ≤ cSl c + 2000 * (n - f) → tA s' 68 (cnt s 65) = Int32.ofNat (cnt s 35) → UN r c' s' (cnt s 35) (cnt s 64) so lu → ca s' 44 (cnt s 35) = 0 → (cnt s' 50 = cnt s 50 ∧ cnt s' 35 = cnt s 35 + 1 ∧ (∀ k, k ≠ cnt s 35 → tA s' 46 k = tA s 46 k) ∧ ca s' 46 (cnt s 35) = 0 ∧ ca s' 39 (cnt s 35) = 0 ∧ (∀ v, tA s' 51 v = tA s 51 v) ∧ cnt s' 56 = cnt s 56) → PX χ n t r f p0 vq Opq Oaq Ouq Eq' Oq' c sq Hq Dq (kR (.ref lu) c') (kN (Int32.ofNat (cnt s 35)) (Int32.ofNat (cnt s 65)) s')) :
    PX χ n t r f p0 vq Opq Oaq Ouq Eq' Oq' c sq Hq Dq (cgI (ptC c r) 1005 (.ref (r + 16)) fun v4 => bR (cC (dc + 20) 811 [eR (.ref r), eI so', eI v4] (ptC c r)) fun v6 h5 => cgR h5 800 (.ref r) fun v7 => bV (cC (dc + 20) 1001 [eR v7] h5) (kR v6)) (taI (ptT s) 37 (tI (ptT s) 64) fun v3 => bI (cT (dt + 20) 37 [eR (.ref 0), eI so', eI v3, eI (tI (ptT s) 64)] (ptT s)) fun v5 h4 => bI (cT (dt + 20) 47 [eR (.ref 0), eI ki, eI v5, eI 0] h4) fun v7 h6 => bV (cT (dt + 20) 6 [eR (.ref 0)] h6) (kN v5 v7)) := by
  have e35 : cnt (ptT s) 35 = cnt s 35 := rfl
  have e64c : cnt (ptT s) 64 = cnt s 64 := rfl
  have e65 : cnt (ptT s) 65 = cnt s 65 := rfl
  have hI := hR1.2.2.2.1.2.2.2.2.2.2.2.1
  have hU := hR1.2.2.2.1.2.2.2.2.2.1
  have e64 : tI (ptT s) 64 = Int32.ofNat (cnt s 64) := hI.1.1.1
  have hw35 : cnt s 64 < cnt s 35 := hI.1.2.1
  obtain ⟨_, hff, hj2, hj3, _⟩ := hR1.1
  have hw : cCl (ptC c r) (r + 16) = 10 := hR1.1.1.1.1
  have h35t : tI (ptT s) 35 = Int32.ofNat (cnt (ptT s) 35) := hU.1.1
  obtain ⟨c1, e1, hR2, hKC2, hKT2, hraw2, nx2, sl2, hlu, hcl⟩ := P_unit (dc + 8) (so := so) (pl := Int32.ofNat f) (nam := tL (ptT s) 12) ⟨hso.1, hso.2.1⟩ hR1 hlt
  rw [r_cgI, if_pos hw, hj2, hso', e1, b_R, e64, q_37 (by omega), ← e64, t_newUnit (dt + 18) _ _ _ hR1.2.1 h35t hlt, b_I, hj3, hki]
  obtain ⟨w1, w2, w3, w4, w5, w6, w7, w8, w9, w10, w11⟩ := nu_new (ptT s) (cnt (ptT s) 35) (Int32.ofNat so) (tA (ptT s) 37 (cnt (ptT s) 64)) (tI (ptT s) 64) (Int32.ofNat f) (tL (ptT s) 12)
  obtain ⟨o1, o2⟩ := nu_old (ptT s) (cnt (ptT s) 35) (Int32.ofNat so) (tA (ptT s) 37 (cnt (ptT s) 64)) (tI (ptT s) 64) (Int32.ofNat f) (tL (ptT s) 12)
  have hthn := nu_th (ptT s) (cnt (ptT s) 35) (Int32.ofNat so) (tA (ptT s) 37 (cnt (ptT s) 64)) (tI (ptT s) 64) (Int32.ofNat f) (tL (ptT s) 12)
  have hn62 := hR0.2.2.2.1.2.1.2.2.2.2.2
  simp only [e35, e64c] at w1 w2 w3 w4 w5 w6 w7 w8 w9 w10 w11 o1 o2 hthn hR2 hKT2 hlu ⊢
  generalize nuT (ptT s) (cnt s 35) (Int32.ofNat so) (tA (ptT s) 37 (cnt s 64)) (tI (ptT s) 64) (Int32.ofNat f) (tL (ptT s) 12) = s2 at *
  have f65 : cnt s2 65 = cnt s 65 := (th_cnt hthn (by decide)).trans e65
  have f62 : cnt s2 62 = cnt s 62 + 1 := (th_cnt hthn (by decide)).trans h62
  have hok62 := hR2.2.2.2.1.2.1.1.1.2
  obtain ⟨e3, hR3, hST3⟩ := P_node (dt + 19) K hK (Int32.ofNat (cnt s 35)) 0 hR2 (by omega)
  obtain ⟨n1, n2, n3, n4, n5, n6, n7⟩ := nd_new s2 (Int32.ofNat K) (Int32.ofNat (cnt s 35)) 0
  have hthd := nd_th s2 (Int32.ofNat K) (Int32.ofNat (cnt s 35)) 0
  have hold : ∀ {y : Nat}, y ≠ cnt s2 65 → ∀ z, tA (ndT s2 (Int32.ofNat K) (Int32.ofNat (cnt s 35)) 0) z y = tA s2 z y := fun hy z => nd_old s2 _ _ _ hy z
  have nd65 := (nd_cnt (k := Int32.ofNat K) (a := Int32.ofNat (cnt s 35)) (b := 0) hR2.2.2.2.1.2.1.2.2.2.2.1).1
  rw [e3, b_I]
  rw [f65] at n1 n2 n3 n4 n5 n6 n7 hR3 hold nd65 ⊢
  generalize ndT s2 (Int32.ofNat K) (Int32.ofNat (cnt s 35)) 0 = s3 at *
  have htok : tI s3 8 ≠ 0 := by rw [th_I hthd (by decide), th_I hthn (by decide)]; exact h8
  have hnp : cNx (ptC c r) = cNx c := rfl
  have hnp2 : cSl (ptC c r) = cSl c := rfl
  rw [RP_800 hR3]
  rcases P_next dc dt hR3 with hb | ⟨c4, s4, p4, f4, e5, e6, hW⟩
  · left
    obtain ⟨a9, c9, s9, k9, pl9, v1, v2, v3, v4, v5, v6, v7, v8⟩ := hb
    obtain ⟨q, s'', q1, q2, q3⟩ := hF s9 (by rw [v4]; exact v6)
    refine ⟨a9, c9, q, s'', k9, pl9, ?_, ?_, v3, by rw [q2]; exact v4, by rw [q3]; exact v5, v6, by omega, by omega⟩
    · rw [v1]; rfl
    · rw [v2, b_V]; exact q1
  · obtain ⟨hS4, hS4'⟩ := WK_ST hR3 hW
    obtain ⟨m1, m2, m3⟩ := hS4' htok
    have hth4 := hW.2.2.2.1
    have oW : ∀ z y, tA s4 z y = tA s3 z y := fun z y => th_A hth4 (by simp) y
    have hUN3 : UN r c1 s3 (cnt s 35) (cnt s 64) so (cNx c) := by
      have h35s : cnt s2 35 = cnt s 35 + 1 := cnt_of w1 (by have := hlt; omega)
      have hU2 := hR2.2.2.2.1.2.2.2.2.2.1
      refine ⟨by rw [th_cnt hthd (by decide)]; omega, ?_, hw35, ?_, hlu, ?_⟩
      · rw [th_A hthd (by decide), w6]; exact e64
      · rw [th_A hthd (by decide)]; exact w2
      · obtain ⟨_, ⟨_, m1', m2'⟩, _⟩ := hU2.2.2 (cnt s 64) (by omega)
        obtain ⟨_, ⟨_, m3', m4'⟩, _⟩ := hU2.2.2 (cnt s 35) (by omega)
        have hlu' : lid c1 (r + 8) (cnt s 35) = cNx c := hlu
        have eca : ca s2 37 (cnt s 35) = ca s2 37 (cnt s 64) := by unfold ca; rw [w3, o1 37 (cnt s 64) (by omega)]
        rw [← hlu', m2', m4', eca]
    have hUN4 := UN_st hR3 hS4.1 hS4.2.1 hUN3
    have h64s : cnt s4 64 = cnt s 64 := by rw [th_cnt hth4 (by decide), th_cnt hthd (by decide), th_cnt hthn (by decide)]; exact e64c
    have hl0 : (cLs c (r + 8)).length ≤ (cLs (ptC c r) (r + 8)).length := Nat.le_refl _
    have hl1 : (cLs (ptC c r) (r + 8)).length ≤ (cLs c1 (r + 8)).length := by rw [RP_len hR1, RP_len hR2]; exact hKT2.1 35 (by simp)
    have hBS : BS χ n t r f vo Op Oa (fun k => Ou k ∨ k = cnt s 35) E 60 O c s (cnt s 65) K [] p4 f4 vo c4 s4 := by
      refine ⟨hW.1, ⟨KC_trans hl0 hST1.1 (KC_trans hl1 hKC2 hS4.1), KT_trans hST1.2.1 (KT_trans hKT2 (KT_trans hST3.2.1 hS4.2.1)), fun y hy z hz => ?_, by omega, by omega, by omega, fun b q => hS4.2.2.2.2.2.2 b (hraw2 b (hST1.2.2.2.2.2.2 b q))⟩, fun _ _ => rfl, Nat.le_refl _, ?_, ⟨?_, ?_, fun i hi => ?_, ?_, h64s⟩, ?_, ?_, ?_, ?_, List.nodup_nil, 0, fun e he => by cases he⟩
      · rw [oW, hold (by omega), th_A hthn (by simp only [List.mem_cons, List.not_mem_nil, or_false] at hz ⊢; omega)]; rfl
      · rw [th_cnt hth4 (by decide), nd65]; omega
      · exact K1_trans (KS_pt s).1 (K1_trans (K1_kt hU hKT2 (th_cnt hthn (by decide)) (th_cnt hthn (by decide)) hw35 (fun k hk => ca_eq (o1 44 k (by omega)))) (K1_trans (K1_th hthd (by decide)) (K1_th hth4 (by decide))))
      · rw [th_cnt hth4 (by decide), th_cnt hthd (by decide), th_cnt hthn (by decide)]; rfl
      · rw [oW, th_A hthd (by decide), th_A hthn (by decide)]; rfl
      · rw [th_cnt hth4 (by decide), th_cnt hthd (by decide), th_cnt hthn (by decide)]; rfl
      · rw [oW]; exact n1
      · rw [oW, n2, th_I hthn (by decide)]; exact e64
      · rw [oW]; exact n6
      · show lnk s4 [] (tA s4 70 (cnt s 65))
        rw [oW]; exact n5
    rw [e5, e6, b_V, b_V]
    exact hgo c4 s4 p4 f4 (cNx c) hBS hW.2.1 m1 (by omega) (by omega) (by rw [oW]; exact n3) hUN4 (by unfold ca; rw [oW, th_A hthd (by decide), w7]; rfl) ⟨by rw [th_cnt hth4 (by decide), th_cnt hthd (by decide), th_cnt hthn (by decide)]; rfl, by rw [th_cnt hth4 (by decide), th_cnt hthd (by decide), cnt_of w1 (by omega)], fun k hk => by rw [oW, th_A hthd (by decide), o1 46 k hk]; rfl, by unfold ca; rw [oW, th_A hthd (by decide), w8]; rfl, by unfold ca; rw [oW, th_A hthd (by decide), w5]; rfl, fun v => by rw [oW, th_A hthd (by decide), th_A hthn (by decide)]; rfl, by rw [th_cnt hth4 (by decide), th_cnt hthd (by decide), th_cnt hthn (by decide)]; rfl⟩
theorem B_open (dc dt : Nat) {so : Nat} {kR : Value → cS → cRes} {kN : Int32 → Int32 → tS → tR} {ki so' : Int32} (hso : 1 ≤ so ∧ so ≤ 4 ∧ so ≠ 3) (hK : K ≤ 42) (hki : ki = Int32.ofNat K) (hso' : so' = Int32.ofNat so) (hR0 : RP χ n t r p f vo Op Oa Ou E O c s) (hR1 : RP χ n t r p f vo Op Oa Ou (E + 60) O (ptC c r) (ptT s)) (hST1 : ST n r f c s f (ptC c r) (ptT s)) (h62 : cnt (ptT s) 62 = cnt s 62 + 1)
    (hlt : cnt s 35 < 60) (h8 : tI s 8 ≠ 0) (hF : FH (kN (Int32.ofNat (cnt s 35)) (Int32.ofNat (cnt s 65))))
    (hgo : ∀ c' s' p' f' lu, BS χ n t r f vo Op Oa (fun k => Ou k ∨ k = cnt s 35) E 60 O c s (cnt s 65) K [] p' f' vo c' s' → p ≤ f' → f < f' → cNx c' + 300 * (n - f') + 280 ≤ cNx c + 300 * (n - f) → cSl c' + 2000 * (n - f') + 1700 ≤ cSl c + 2000 * (n - f) → tA s' 68 (cnt s 65) = Int32.ofNat (cnt s 35) → UN r c' s' (cnt s 35) (cnt s 64) so lu → ca s' 44 (cnt s 35) = 0 → PX χ n t r f p0 vq Opq Oaq Ouq Eq' Oq' c sq Hq Dq (kR (.ref lu) c') (kN (Int32.ofNat (cnt s 35)) (Int32.ofNat (cnt s 65)) s')) :
    PX χ n t r f p0 vq Opq Oaq Ouq Eq' Oq' c sq Hq Dq (cgI (ptC c r) 1005 (.ref (r + 16)) fun v4 => bR (cC (dc + 20) 811 [eR (.ref r), eI so', eI v4] (ptC c r)) fun v6 h5 => cgR h5 800 (.ref r) fun v7 => bV (cC (dc + 20) 1001 [eR v7] h5) (kR v6)) (taI (ptT s) 37 (tI (ptT s) 64) fun v3 => bI (cT (dt + 20) 37 [eR (.ref 0), eI so', eI v3, eI (tI (ptT s) 64)] (ptT s)) fun v5 h4 => bI (cT (dt + 20) 47 [eR (.ref 0), eI ki, eI v5, eI 0] h4) fun v7 h6 => bV (cT (dt + 20) 6 [eR (.ref 0)] h6) (kN v5 v7)) :=
  B_openX dc dt hso hK hki hso' hR0 hR1 hST1 h62 hlt h8 hF (fun c' s' p' f' lu h1 h2 h3 h4 h5 h6 h7 h8 _ => hgo c' s' p' f' lu h1 h2 h3 h4 h5 h6 h7 h8)
end
