set_option maxRecDepth 100000
set_option maxHeartbeats 4000000
/-! D101: the loop over parameters -/
theorem prC_V (c : cS) (r : Nat) (v : Value) (lu w : Nat) (a : Int64) (g : Nat) : prC (csR c 803 r v) lu w a g = csR (prC c lu w a g) 803 r v := by
  show csI (csI (csR (csR (csR (csL (nwC (csI c 1608 lu (Int32.ofNat (w + 1))) 17) 1700 (cNx c) a) 803 r v) 1701 (cNx c) (.ref lu)) 1702 (cNx c) .null) 1703 (cNx c) (Int32.ofNat w)) 1607 lu (Int32.ofNat (g + 1)) = _
  rw [csR_RR _ _ _ _ _ (show 803 ≠ 1701 by decide), csR_RR _ _ _ _ _ (show 803 ≠ 1702 by decide)]
  rfl
theorem sh_pr (s : tS) (u : Nat) (b : Int64) (num : Int32) (v : Nat) : tsA (tsI (tsA (nvT s u b num) 57 (cnt s 56) (Int32.ofNat v)) 56 (tI s 56 + 1)) 39 u (tA s 39 u + 1) = shT (prT s u b num) v := by
  show tsI (tsA (tsA (nvT s u b num) 57 (cnt s 56) (Int32.ofNat v)) 39 u (tA s 39 u + 1)) 56 (tI s 56 + 1) = _
  rw [tsA_AA _ _ _ _ _ (show 57 ≠ 39 by decide)]
  rfl
theorem VQ_pr {q s : tS} (h : VQ q s) (u : Nat) (b : Int64) (num : Int32) (hu : tA q 39 u = tA s 39 u) (v : Nat) : VQ (shT (prT q u b num) v) (shT (prT s u b num) v) := by
  obtain ⟨h1, h2, h3, h4⟩ := h
  have e50 : tI s 50 = tI q 50 := h1 50 (by decide)
  have e56 : tI s 56 = tI q 56 := h1 56 (by decide)
  have c50 : cnt s 50 = cnt q 50 := by unfold cnt; rw [e50]
  have c56 : cnt s 56 = cnt q 56 := by unfold cnt; rw [e56]
  have d56 : ∀ z : tS, cnt (prT z u b num) 56 = cnt z 56 := fun z => rfl
  refine ⟨fun x hx => ?_, fun x hx => h2 x hx, fun x j hx => ?_, fun x j hx => ?_⟩
  · show tI (tsI (tsA (prT s u b num) 57 (cnt (prT s u b num) 56) (Int32.ofNat v)) 56 (tI s 56 + 1)) x = tI (tsI (tsA (prT q u b num) 57 (cnt (prT q u b num) 56) (Int32.ofNat v)) 56 (tI q 56 + 1)) x
    rw [t_I_I, t_I_I, e56]
    by_cases w : x = 56
    · rw [if_pos w, if_pos w]
    · rw [if_neg w, if_neg w]
      show tI (tsI s 50 (tI s 50 + 1)) x = tI (tsI q 50 (tI q 50 + 1)) x
      rw [t_I_I, t_I_I, e50, h1 x hx]
  · show tA (tsA (tsA (tsA (tsA (tsA s 51 (cnt s 50) (Int32.ofNat u)) 53 (cnt s 50) num) 54 (cnt s 50) 0) 39 u (tA s 39 u + 1)) 57 (cnt s 56) (Int32.ofNat v)) x j = tA (tsA (tsA (tsA (tsA (tsA q 51 (cnt q 50) (Int32.ofNat u)) 53 (cnt q 50) num) 54 (cnt q 50) 0) 39 u (tA q 39 u + 1)) 57 (cnt q 56) (Int32.ofNat v)) x j
    rw [c50, c56, hu]
    simp only [t_A_A]
    rw [h3 x j hx]
  · show tB (tsB s 52 (cnt s 50) b) x j = tB (tsB q 52 (cnt q 50) b) x j
    rw [t_B_B, t_B_B, c50, h4 x j hx]
section
variable {χ : Nat → Int32} {n t r : Nat} {Op Oa Ou : Nat → Prop} {E O : Nat}
theorem pN_mis {f0 f p : Nat} {c c0 : cS} {s : tS} (h : LX χ n (r + 16) t 4 (r + 19) (r + 17) p f c s) (hfi : tI s 6 = 0) (k : Int32) (hk : k ≠ 0) (h1 : cNx c + 300 * (n - f) ≤ cNx c0 + 300 * (n - f0)) (h2 : cSl c + 2000 * (n - f) ≤ cSl c0 + 2000 * (n - f0)) {s1 : tS} {rt : tR} {s' : tS} (hrt : rt = some (.inl none, s')) (h6 : tI s' 6 = tI s1 6) (h7 : tI s' 7 = tI s1 7) (hs1 : (tI s1 6 = k ∧ tI s1 7 = Int32.ofNat f)) : pN n f0 c0 (some (.inr (.ref (cNx c)), wH c k (cI c 1005 (r + 16)))) rt := by
  obtain ⟨g1, _⟩ := lx_mis h hfi k hk
  exact ⟨cNx c, _, s', k, Int32.ofNat f, rfl, hrt, g1, by rw [h6]; exact hs1.1, by rw [h7]; exact hs1.2, hk, by rw [(wH_nx _ _ _).1]; omega, by rw [(wH_nx _ _ _).2]; omega⟩
theorem pN_lx {f0 f1 : Nat} {c0 c1 : cS} {rc rc' : cRes} {rt rt' : tR} (h : lxBad rc rt c1) (h1 : cNx c1 + 300 * (n - f1) ≤ cNx c0 + 300 * (n - f0) + 50) (h2 : cSl c1 + 2000 * (n - f1) ≤ cSl c0 + 2000 * (n - f0) + 500)
    (hc : ∀ a c', rc = some (.inr (.ref a), c') → rc' = some (.inr (.ref a), c')) (ht : ∀ s', rt = some (.inl none, s') → tI s' 6 ≠ 0 → ∃ s'', rt' = some (.inl none, s'') ∧ tI s'' 6 = tI s' 6 ∧ tI s'' 7 = tI s' 7) : pN n f0 c0 rc' rt' := by
  obtain ⟨a9, c9, s9, k9, pl9, w1, w2, w3, w4, w5, w6, w7, w8⟩ := h
  obtain ⟨s'', g1, g2, g3⟩ := ht s9 w2 (by rw [w4]; exact w6)
  exact ⟨a9, c9, s'', k9, pl9, hc a9 c9 w1, g1, w3, by rw [g2]; exact w4, by rw [g3]; exact w5, w6, by omega, by omega⟩
theorem PI_st {u lu b0 : Nat} {od : Int32} {vo : Nat → Nat} {p f p' f' : Nat} {c c' : cS} {q z s : tS} (hPI : PI χ n t r u lu b0 od Op Oa Ou E O vo p f c q s) (hz : ov z q = z) (hW : WK χ n t r p vo Op Oa Ou E O (csR c 803 r (.ref lu)) s (csR c' 803 r (.ref lu)) (ov z s) p' f') (h803 : cR c' 803 r = cR c 803 r) :
    PI χ n t r u lu b0 od Op Oa Ou E O vo p' f' c' z (ov z s) ∧ PQ n r lu u vo f c q s vo f' c' z (ov z s) ∧ (tI s 8 ≠ 0 → f < f' ∧ cNx c' + 300 * (n - f') + 298 ≤ cNx c + 300 * (n - f) ∧ cSl c' + 2000 * (n - f') + 1992 ≤ cSl c + 2000 * (n - f)) := by
  obtain ⟨hR, hVQ, h64, hu, hlid, h46, h54, hod, hvis, hb0, Lt, l1, l2, l3, l4⟩ := hPI
  obtain ⟨hS, hS'⟩ := WK_ST hR hW
  have hth := hW.2.2.2.1
  have oA : ∀ x y, tA (ov z s) x y = tA s x y := fun x y => rfl
  have oc : ∀ x y, ca (ov z s) x y = ca s x y := fun x y => rfl
  have on : ∀ x, x ∉ [8, 9, 10, 11, 14, 15] → cnt (ov z s) x = cnt s x := fun x hx => th_cnt hth hx
  have hcl := RSt_uL hR.2.2.2.1.1
  have hl : lid c' (r + 8) u = lid c (r + 8) u := ch_lid hW.2.2.1 hcl (by decide) (by decide) u
  have hff : f ≤ f' := hS.2.2.2.2.2.1
  refine ⟨⟨hW.1, VQ_ov hVQ hz, (th_I hth (by decide)).trans h64, by rw [on 35 (by decide)]; exact hu, hl.trans hlid, h46, ?_, hod, ?_, by rw [on 56 (by decide)]; exact hb0, Lt, ?_, ?_, by omega, by rw [on 63 (by decide)]; exact l4⟩, ⟨hS.1, hS.2.1, TH_wk (by decide) hth, fun i _ => rfl, by rw [on 56 (by decide)]; exact Nat.le_refl _, fun _ _ => rfl, by rw [on 50 (by decide)]; exact Nat.le_refl _, hS.2.2.2.2.2.2, hS.2.2.2.1, hS.2.2.2.2.1, hff, h803, fun k _ => rfl, TH_wk (by decide) (ov_TH hz)⟩, hS'⟩
  · rw [on 50 (by decide)]
    intro v hv w
    exact h54 v hv w
  · rw [on 56 (by decide)]
    intro i h1 h2
    exact hvis i h1 h2
  · rw [on 35 (by decide)]
    intro k hk
    exact l1 k hk
  · rw [on 50 (by decide), on 35 (by decide), oc]; exact l2
theorem par_one (d : Nat) (hn13 : n ≤ 1280) {u lu b0 : Nat} {od : Int32} {vo : Nat → Nat} {p f : Nat} {c : cS} {q s : tS} (hPI : PI χ n t r u lu b0 od Op Oa Ou E O vo p f c q s) (h8 : tI s 8 = 1) (h39 : ca s 39 u < 3) (h12 : cnt s 56 < 12) :
    ∃ c2, (∀ K : cS → cRes, (cgR c 805 (.ref r) fun v4 => bR (cC (d + 11) 1602 [eR (.ref lu), eL (cL c 1007 (r + 16))] c) fun v6 h5 => bI (cC (d + 11) 9105 [eR v4, eR v6] h5) fun _ h7 => cgI h7 1607 (.ref lu) fun v9 => cpI h7 1607 (.ref lu) (v9 + 1) K) = K c2) ∧
      (∀ K : tS → tR, (taI q 39 (Int32.ofNat u) fun v1 => bI (cT (d + 11) 38 [eR (.ref 0), eI (Int32.ofNat u), eL (tL q 12), eI (od + v1), eI 0] q) fun v3 h2 => tsaI h2 57 (tI q 56) v3 fun h4 => tpI h4 56 ((tI h4 56) + 1) fun h5 => taI h5 39 (Int32.ofNat u) fun v6 => tsaI h5 39 (Int32.ofNat u) (v6 + 1) K) = K (shT (prT q u (tL s 12) (od + tA s 39 u)) (cnt s 50))) ∧
      PI χ n t r u lu b0 od Op Oa Ou E O (fun v => if v = cnt s 50 then cNx c else vo v) p f c2 (shT (prT q u (tL s 12) (od + tA s 39 u)) (cnt s 50)) (shT (prT s u (tL s 12) (od + tA s 39 u)) (cnt s 50)) ∧
      cNx c2 ≤ cNx c + 2 ∧ cSl c2 ≤ cSl c + 60 ∧ KC r (csR c 803 r (.ref lu)) (csR c2 803 r (.ref lu)) ∧ KT s (shT (prT s u (tL s 12) (od + tA s 39 u)) (cnt s 50)) ∧ (∀ b, raw (csR c 803 r (.ref lu)) b → raw (csR c2 803 r (.ref lu)) b) ∧ cR c2 803 r = cR c 803 r ∧ ca (shT (prT s u (tL s 12) (od + tA s 39 u)) (cnt s 50)) 39 u = ca s 39 u + 1 := by
  obtain ⟨hR, hVQ, h64, hu, hlid, h46, h54, hod, hvis, hb0, Lt, l1, l2, l3, l4⟩ := id hPI
  have hS := hR.2.2.2.1.1
  have hr : cCl c r = 8 := hS.1
  have h805 : cR c 805 r = .ref (r + 15) := by have := hS.2.2.2.1; rw [g_R_R, if_neg (by simp)] at this; exact this
  have hvL : cCl c (r + 15) = 5805 := RSt_vL (c := csR c 803 r (.ref lu)) hS
  have hU := hR.2.2.2.1.2.2.2.2.2.1
  have hV := hR.2.2.2.1.2.2.2.2.2.2.1
  have hI := hR.2.2.2.1.2.2.2.2.2.2.2.1
  have h60 : cnt s 35 ≤ 60 := hU.1.2
  have hncl : CLN c := CLN_V hr hR.2.2.1
  have hrL : r ≠ cNx c := fun w => by rw [w, (hncl _ (Nat.le_refl _)).1] at hr; cases hr
  have c64 : cnt s 64 = u := cnt_of h64 (by omega)
  obtain ⟨_, _, _, _, _, ⟨u39, u7⟩, ⟨_, u8⟩, _⟩ := hU.2.2 u hu
  have u39' : tA s 39 u = Int32.ofNat (ca s 39 u) := u39.1
  have hlidV : lid (csR c 803 r (.ref lu)) (r + 8) u = lu := hlid
  rw [hlidV] at u7 u8
  have u7' : cI c 1607 lu = tA s 39 u := u7
  have hod2 : od + tA s 39 u = Int32.ofNat (ow s u) := by
    rw [hod, u39', z_add]
    unfold ow
    rw [h46]; rfl
  have hp := hR.1.1.2.2.2.2.2.2.1
  have hfp := hR.1.2.1
  have h63 : cnt s 63 ≤ 24 := hR.2.2.2.1.2.1.2.1.1.2
  have hLt : Lt ≤ 200 := by omega
  have h39b := u39.2
  have h500 : cnt s 50 + 1 ≤ 500 := by omega
  have e50 : tI s 50 = Int32.ofNat (cnt s 50) := hV.1.1
  have hnm : nm (cL c 1007 (r + 16)) (tL s 12) := (lw_1 hR.1.2.2.2.2.2 h8).2
  have z1 : (1 : Int32) = Int32.ofNat 1 := rfl
  have c50' := cnt_of (prT_50 u (tL s 12) (od + tA s 39 u) hV.1 : tI (prT s u (tL s 12) (od + tA s 39 u)) 50 = _) (by omega)
  have hthp := prT_th s u (tL s 12) (od + tA s 39 u)
  have o46 : ∀ k, ca (prT s u (tL s 12) (od + tA s 39 u)) 46 k = ca s 46 k := fun k => th_ca hthp (by decide) k
  have e39 : tA (prT s u (tL s 12) (od + tA s 39 u)) 39 u = Int32.ofNat (ca s 39 u + 1) := by
    rw [(prT_new s u (tL s 12) (od + tA s 39 u)).2.2.2.2, u39', z1, z_add]
  have c39 := ca_of e39 (by omega)
  obtain ⟨hR1, hKC1, hKT1, u8', hcu, g5⟩ := P_par (num := od + tA s 39 u) hR c64 hnm h46 h39 h54 hod2 ⟨Lt, fun k hk => by
    rw [o46]; exact l1 k (by rw [th_cnt hthp (x := 35) (by decide)] at hk; exact hk), by
    rw [c50', th_cnt hthp (by decide)]; omega, l3, by
    rw [th_cnt hthp (by decide)]; exact l4⟩ h500
  rw [hlidV] at hR1 hKC1 u8' hcu g5
  have hcu' : cCl c lu = 16 := hcu
  have u8c : cI c 1608 lu = Int32.ofNat (ow s u) := u8'
  have hlune : lu ≠ cNx c := fun w => by rw [w, (hncl _ (Nat.le_refl _)).1] at hcu'; cases hcu'
  have eP : prC (csR c 803 r (.ref lu)) lu (ow s u) (cL c 1007 (r + 16)) (ca s 39 u) = csR (prC c lu (ow s u) (cL c 1007 (r + 16)) (ca s 39 u)) 803 r (.ref lu) := prC_V c r _ lu (ow s u) _ (ca s 39 u)
  rw [eP] at hR1 hKC1 g5
  have g5' : cL (csR (prC c lu (ow s u) (cL c 1007 (r + 16)) (ca s 39 u)) 803 r (.ref lu)) 1700 (cNx c) = cL c 1007 (r + 16) := g5
  -- the runs
  have e1 := c_vadd d (a := cL c 1007 (r + 16)) hcu' (hncl _ (Nat.le_refl _)).1 u8c
  have hn1 : CLN (vrC c lu (ow s u) (cL c 1007 (r + 16))) := cC_cln e1 hncl
  have hvL1 : cCl (vrC c lu (ow s u) (cL c 1007 (r + 16))) (r + 15) = 5805 := by
    have : r + 15 ≠ cNx c := fun w => by rw [w, (hncl _ (Nat.le_refl _)).1] at hvL; cases hvL
    simp [vrC, nwC, gC, this, hvL]
  have hi4 : (cLs c (r + 15)).length = cnt s 56 := hI.2.2.1.2.1
  have hls1 : cLs (vrC c lu (ow s u) (cL c 1007 (r + 16))) (r + 15) = cLs c (r + 15) := rfl
  obtain ⟨c1, e2, hLA⟩ := c_add (d + 2) hvL1 rfl (by rw [hls1, hi4]; omega) (.ref (cNx c))
  have hn1' : CLN c1 := cC_cln e2 hn1
  have hcu1 : cCl c1 lu = 16 := by
    have := hLA.2.1.2.2.2.2.2.1
    rw [this]; simp [vrC, nwC, gC, hlune, hcu']
  have hI1 : cI c1 1607 lu = Int32.ofNat (ca s 39 u) := by
    rw [hLA.2.1.1, ← u39', ← u7']
    simp [vrC, nwC, gC, hlune]
  have e39' : Int32.ofNat (ca s 39 u) + 1 = Int32.ofNat (ca s 39 u + 1) := by rw [z1, z_add]
  have hLA2 : LA (prC c lu (ow s u) (cL c 1007 (r + 16)) (ca s 39 u)) (r + 15) (cLs (prC c lu (ow s u) (cL c 1007 (r + 16)) (ca s 39 u)) (r + 15) ++ [.ref (cNx c)]) (csI c1 1607 lu (Int32.ofNat (ca s 39 u + 1))) := LA_I hLA
  have hLA3 := LA_V (r := r) (v := .ref lu) hLA2
  have hn2 : CLN (csR (csI c1 1607 lu (Int32.ofNat (ca s 39 u + 1))) 803 r (.ref lu)) := by
    refine CLN_R (x := 803) ?_ (CLN_I (x := 1607) hcu1 hn1')
    show cCl c1 r = 8
    rw [hLA.2.1.2.2.2.2.2.1]; simp [vrC, nwC, gC, hrL, hr]
  have hv1 : (fun v => if v = cnt s 50 then cNx (csR c 803 r (.ref lu)) else vo v) = (fun v => if v = cnt s 50 then cNx c else vo v) := rfl
  rw [hv1] at hR1
  obtain ⟨n1, n2, n3, n4, _⟩ := prT_new s u (tL s 12) (od + tA s 39 u)
  have c51 : ca (prT s u (tL s 12) (od + tA s 39 u)) 51 (cnt s 50) = u := ca_of n1 (by omega)
  have c64' : cnt (prT s u (tL s 12) (od + tA s 39 u)) 64 = u := (th_cnt hthp (by decide)).trans c64
  have c56' : cnt (prT s u (tL s 12) (od + tA s 39 u)) 56 = cnt s 56 := th_cnt hthp (by decide)
  have hk50 : (if cnt s 50 = cnt s 50 then cNx c else vo (cnt s 50)) = cNx c := if_pos rfl
  obtain ⟨hR2, hKC2, hKT2, c56, hsl2, hch2⟩ := P_showL (k := cnt s 50) (c' := csR (csI c1 1607 lu (Int32.ofNat (ca s 39 u + 1))) 803 r (.ref lu)) hR1 (by rw [c56']; exact h12) (by rw [c50']; omega) (by
      rw [c64', c51]
      exact Or.inl rfl) (by
      rw [hk50, g5', n2]; exact hnm) (by
      rw [hk50]; exact hLA3) hn2
  have hnx2 : cNx c1 ≤ cNx c + 2 := by
    have := hLA.1.2.1
    have e : cNx (vrC c lu (ow s u) (cL c 1007 (r + 16))) = cNx c + 1 := rfl
    omega
  have hsx2 : cSl c1 ≤ cSl c + 60 := by
    have := hLA.1.2.2.2
    have e : cSl (vrC c lu (ow s u) (cL c 1007 (r + 16))) = cSl c + 4 := rfl
    rw [hls1, hi4] at this
    omega
  have e57s : tI q 56 = Int32.ofNat (cnt s 56) := (th_I hVQ (by decide)).symm.trans hI.2.2.1.1.1
  have c56q : cnt q 56 = cnt s 56 := (th_cnt hVQ (by decide)).symm
  have c50q : cnt q 50 = cnt s 50 := (th_cnt hVQ (by decide)).symm
  have e50q : tI q 50 = Int32.ofNat (cnt s 50) := (th_I hVQ (by decide)).symm.trans e50
  have e39q : tA q 39 u = tA s 39 u := (th_A hVQ (by decide) u).symm
  have e12q : tL q 12 = tL s 12 := (hVQ.2.1 12 (by simp)).symm
  have hraw1 : ∀ b, raw (csR c 803 r (.ref lu)) b → raw (csR (prC c lu (ow s u) (cL c 1007 (r + 16)) (ca s 39 u)) 803 r (.ref lu)) b := by
    rw [← prC_V]
    exact pr_raw hR.2.2.1 hcu _ _ _
  have hraw2 : ∀ b, raw (csR (prC c lu (ow s u) (cL c 1007 (r + 16)) (ca s 39 u)) 803 r (.ref lu)) b → raw (csR (csI c1 1607 lu (Int32.ofNat (ca s 39 u + 1))) 803 r (.ref lu)) b := LA_raw hLA3 (k := 5805) (RSt_vL hR1.2.2.2.1.1) (by decide)
  have hths : TH [56] [] [57] [] (prT s u (tL s 12) (od + tA s 39 u)) (shT (prT s u (tL s 12) (od + tA s 39 u)) (cnt s 50)) := TH_I (by simp) (TH_A (by simp) (TH_refl _ _ _ _ _))
  have hlen1 : (cLs (csR c 803 r (.ref lu)) (r + 8)).length ≤ (cLs (csR (prC c lu (ow s u) (cL c 1007 (r + 16)) (ca s 39 u)) 803 r (.ref lu)) (r + 8)).length := Nat.le_refl _
  have hc56 : cnt (shT (prT s u (tL s 12) (od + tA s 39 u)) (cnt s 50)) 56 = cnt s 56 + 1 := by rw [c56, c56']
  refine ⟨csI c1 1607 lu (Int32.ofNat (ca s 39 u + 1)), fun K => ?_, fun K => ?_, ⟨hR2, VQ_pr hVQ _ _ _ e39q _, ?_, ?_, ?_, ?_, ?_, ?_, ?_, ?_, Lt, ?_, ?_, l3, ?_⟩, hnx2, hsx2, KC_trans hlen1 hKC1 hKC2, KT_trans hKT1 hKT2, fun b w => hraw2 b (hraw1 b w), ?_, ?_⟩
  · rw [r_cgR, if_pos hr, h805, e1, b_R, e2, b_I, r_cgI, if_pos hcu1, hI1, r_cpI, if_pos hcu1, e39']
  · have a0 := t_newVar (s := q) (u := u) (b := tL s 12) (num := od + tA s 39 u) (d + 10) (by rw [c50q]; exact e50q) (by rw [c50q]; omega)
    rw [c50q] at a0
    rw [q_39 (by omega), e39q, e12q, a0, b_I, e57s, qs_57 (by omega), r_tpI]
    have a1 : tI (tsA (nvT q u (tL s 12) (od + tA s 39 u)) 57 (cnt s 56) (Int32.ofNat (cnt s 50))) 56 = tI q 56 := rfl
    rw [a1, q_39 (by omega), qs_39 (by omega)]
    have a2 : tA (tsI (tsA (nvT q u (tL s 12) (od + tA s 39 u)) 57 (cnt s 56) (Int32.ofNat (cnt s 50))) 56 (tI q 56 + 1)) 39 u = tA q 39 u := by simp [nvT, gT]
    rw [a2, ← c56q, sh_pr]
  · rw [th_I hths (by decide), th_I hthp (by decide)]; exact h64
  · rw [th_cnt hths (by decide), th_cnt hthp (by decide)]; exact hu
  · show lid c1 (r + 8) u = lu
    unfold lid
    rw [hLA.2.2.2 (r + 8) (by omega)]
    exact hlid
  · rw [th_ca hths (by decide), o46]; exact h46
  · intro v hv w
    have hv' : v < cnt s 50 + 1 := by
      have : cnt (shT (prT s u (tL s 12) (od + tA s 39 u)) (cnt s 50)) 50 = cnt s 50 + 1 := (th_cnt hths (by decide)).trans c50'
      omega
    rw [th_A hths (by decide)]
    rw [th_ca hths (by decide)] at w
    by_cases w2 : v = cnt s 50
    · rw [w2]; exact n4
    · obtain ⟨o1, o2, o3, o4⟩ := prT_old s u (tL s 12) (od + tA s 39 u) w2
      rw [o4]
      rw [ca_eq o1] at w
      exact h54 v (by omega) w
  · rw [th_A hths (by decide), th_A hthp (by decide)]; exact hod
  · intro i h1 h2
    rw [hc56] at h2
    rw [th_ca hths (x := 51) (by decide)]
    have e57 : ∀ j, tA (shT (prT s u (tL s 12) (od + tA s 39 u)) (cnt s 50)) 57 j = if j = cnt s 56 then Int32.ofNat (cnt s 50) else tA s 57 j := fun j => by
      show tA (tsA (prT s u (tL s 12) (od + tA s 39 u)) 57 (cnt (prT s u (tL s 12) (od + tA s 39 u)) 56) (Int32.ofNat (cnt s 50))) 57 j = _
      rw [t_A_A, c56', th_A hthp (by decide)]
      by_cases w : j = cnt s 56
      · rw [if_pos ⟨rfl, w⟩, if_pos w]
      · rw [if_neg (fun z => w z.2), if_neg w]
    by_cases w : i = cnt s 56
    · have := e57 i
      rw [if_pos w] at this
      rw [ca_of this (by omega)]
      exact c51
    · have := e57 i
      rw [if_neg w] at this
      rw [ca_eq this]
      have hi : i < cnt s 56 := by omega
      have g2 : ca s 57 i < cnt s 50 := (hI.2.2.1.2.2 i hi).2.1
      rw [ca_eq (prT_old s u (tL s 12) (od + tA s 39 u) (v := ca s 57 i) (by omega)).1]
      exact hvis i h1 hi
  · rw [hc56]; omega
  · rw [th_cnt hths (by decide), th_cnt hthp (by decide)]
    intro k hk
    rw [th_ca hths (by decide), o46]; exact l1 k hk
  · rw [th_cnt hths (by decide), th_cnt hths (by decide), th_cnt hthp (x := 35) (by decide), c50', th_ca hths (by decide), c39]
    omega
  · rw [th_cnt hths (by decide), th_cnt hthp (by decide)]; exact l4
  · show cR c1 803 r = _
    rw [hLA.2.1.2.2.1]
    simp [vrC, nwC, gC]
  · rw [th_ca hths (by decide)]; exact c39
end
