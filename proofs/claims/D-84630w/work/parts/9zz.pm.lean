set_option maxRecDepth 100000
set_option maxHeartbeats 4000000
/-! D100: parameters -/
def prC (c : cS) (lu w : Nat) (a : Int64) (g : Nat) : cS := csI (vrC c lu w a) 1607 lu (Int32.ofNat (g + 1))
def nvT (s : tS) (u : Nat) (b : Int64) (num : Int32) : tS := tsA (tsA (tsB (tsA (tsI s 50 (tI s 50 + 1)) 51 (cnt s 50) (Int32.ofNat u)) 52 (cnt s 50) b) 53 (cnt s 50) num) 54 (cnt s 50) 0
def prT (s : tS) (u : Nat) (b : Int64) (num : Int32) : tS := tsA (nvT s u b num) 39 u (tA s 39 u + 1)
theorem prT_th (s : tS) (u : Nat) (b : Int64) (num : Int32) : TH [50] [] [39, 51, 53, 54] [52] s (prT s u b num) := TH_A (by simp) (TH_A (by simp) (TH_A (by simp) (TH_B (by simp) (TH_A (by simp) (TH_I (by simp) (TH_refl _ _ _ _ s))))))
theorem prT_new (s : tS) (u : Nat) (b : Int64) (num : Int32) : tA (prT s u b num) 51 (cnt s 50) = Int32.ofNat u ∧ tB (prT s u b num) 52 (cnt s 50) = b ∧ tA (prT s u b num) 53 (cnt s 50) = num ∧ tA (prT s u b num) 54 (cnt s 50) = 0 ∧ tA (prT s u b num) 39 u = tA s 39 u + 1 := by
  refine ⟨?_, ?_, ?_, ?_, ?_⟩ <;> simp [prT, nvT, gT]
theorem prT_old (s : tS) (u : Nat) (b : Int64) (num : Int32) {v : Nat} (hv : v ≠ cnt s 50) : tA (prT s u b num) 51 v = tA s 51 v ∧ tB (prT s u b num) 52 v = tB s 52 v ∧ tA (prT s u b num) 53 v = tA s 53 v ∧ tA (prT s u b num) 54 v = tA s 54 v := by
  refine ⟨?_, ?_, ?_, ?_⟩ <;> simp [prT, nvT, gT, hv]
theorem prT_39 (s : tS) (u : Nat) (b : Int64) (num : Int32) {k : Nat} (hk : k ≠ u) : tA (prT s u b num) 39 k = tA s 39 k := by simp [prT, nvT, gT, hk]
theorem prT_50 (u : Nat) (b : Int64) (num : Int32) {s : tS} (h : cok s 50 500) : tI (prT s u b num) 50 = Int32.ofNat (cnt s 50 + 1) := (cnt_up h (by decide)).2
theorem t_newVar (d : Nat) {s : tS} {u : Nat} {b : Int64} {num : Int32} (h50 : tI s 50 = Int32.ofNat (cnt s 50)) (hb : cnt s 50 < 500) : cT (d + 1) 38 [eR (.ref 0), eI (Int32.ofNat u), eL b, eI num, eI 0] s = some (.inl (some (eI (Int32.ofNat (cnt s 50)))), nvT s u b num) := by
  rw [kX7_newVariable, uX7_newVariable, r_tpI, h50, qs_51 hb, qs_52 hb, qs_53 hb, qs_54 hb _ _ (Or.inl rfl)]
  unfold nvT
  rw [h50]
section
variable {χ : Nat → Int32} {n t r p f : Nat} {vo : Nat → Nat} {Op Oa Ou : Nat → Prop} {E O : Nat} {c : cS} {s : tS}
theorem pr_ch (hn : CLN c) (lu w : Nat) (a : Int64) (g : Nat) : CH [1607, 1608] [] [] [] c (prC c lu w a g) := CH_I (Or.inl (by simp)) (CH_wk (by decide) (vr_ch hn lu w a))
theorem pr_raw (hn : CLN c) {lu : Nat} (hu : cCl c lu = 16) (w : Nat) (a : Int64) (g : Nat) : ∀ b, raw c b → raw (prC c lu w a g) b := raw_I (vr_raw hn hu w a)
theorem P_par {u : Nat} {a b : Int64} {num : Int32} (h : RP χ n t r p f vo Op Oa Ou E O c s) (hu64 : cnt s 64 = u) (hnm : nm a b) (h46 : ca s 46 u = 0) (h39 : ca s 39 u < 3) (h54 : ∀ v, v < cnt s 50 → ca s 51 v = u → tA s 54 v = 0) (hnum : num = Int32.ofNat (ow s u)) (hN' : RNt O f (prT s u b num)) (h500 : cnt s 50 + 1 ≤ 500) :
    RP χ n t r p f (fun v => if v = cnt s 50 then cNx c else vo v) Op Oa Ou E O (prC c (lid c (r + 8) u) (ow s u) a (ca s 39 u)) (prT s u b num) ∧ KC r c (prC c (lid c (r + 8) u) (ow s u) a (ca s 39 u)) ∧ KT s (prT s u b num) ∧ cI c 1608 (lid c (r + 8) u) = Int32.ofNat (ow s u) ∧ cCl c (lid c (r + 8) u) = 16 ∧ cL (prC c (lid c (r + 8) u) (ow s u) a (ca s 39 u)) 1700 (cNx c) = a := by
  have h0 := h
  obtain ⟨hL, hfi, hn, hQ, hN, hOu, hOp, hOa, hOu2⟩ := h
  obtain ⟨hS, hC, hG, hLm, hM, hU, hV, hI, hF, hA, hB⟩ := hQ
  have hu := hI.1.2.1
  rw [hu64] at hu
  have h60 := hU.1.2
  have hcu : cCl c (lid c (r + 8) u) = 16 := (hU.2.1.2 u hu).2
  obtain ⟨_, _, _, _, _, ⟨u39, u7⟩, ⟨u46, u8⟩, _⟩ := hU.2.2 u hu
  have hch := pr_ch hn (lid c (r + 8) u) (ow s u) a (ca s 39 u)
  have e1 := c_vadd 0 (a := a) hcu (hn _ (Nat.le_refl _)).1 u8
  have hune : lid c (r + 8) u ≠ cNx c := fun q => by rw [q, (hn _ (Nat.le_refl _)).1] at hcu; cases hcu
  have hcuv : cCl (vrC c (lid c (r + 8) u) (ow s u) a) (lid c (r + 8) u) = 16 := by simp [vrC, nwC, gC, hune, hcu]
  have hncl : CLN (prC c (lid c (r + 8) u) (ow s u) a (ca s 39 u)) := CLN_I (x := 1607) hcuv (cC_cln e1 hn)
  have hth := prT_th s u b num
  have hid := TH_refl [] [] [] [] s
  have hKC : KC r c (prC c (lid c (r + 8) u) (ow s u) a (ca s 39 u)) := KC_of hch hS (by show cSl c ≤ cSl c + _; omega) (by decide)
  obtain ⟨n1, n2, n3, n4, n5⟩ := prT_new s u b num
  have old : ∀ v, v < cnt s 50 → tA (prT s u b num) 51 v = tA s 51 v ∧ tB (prT s u b num) 52 v = tB s 52 v ∧ tA (prT s u b num) 53 v = tA s 53 v ∧ tA (prT s u b num) 54 v = tA s 54 v := fun v hv => prT_old s u b num (by omega)
  have e50 := prT_50 u b num hV.1
  have c50 := cnt_of e50 (by omega)
  have o36 : ∀ k, tA (prT s u b num) 36 k = tA s 36 k := fun k => th_A hth (by decide) k
  have o46 : ∀ k, tA (prT s u b num) 46 k = tA s 46 k := fun k => th_A hth (by decide) k
  have e39 : tA (prT s u b num) 39 u = Int32.ofNat (ca s 39 u + 1) := by
    rw [n5, u39.1, show (1 : Int32) = Int32.ofNat 1 from rfl, z_add]
  have c39 := ca_of e39 (by omega)
  have how : ow (prT s u b num) u = ow s u + 1 := by
    unfold ow
    rw [o36, c39, ca_eq (o46 u)]; omega
  have hob : ow s u ≤ 4 := by
    unfold ow
    rw [h46]
    split <;> omega
  have hvI : ∀ v, v < cnt s 50 → vI (prT s u b num) v = vI s v := fun v hv => by
    obtain ⟨o1, o2, o3, o4⟩ := old v hv
    unfold vI
    rw [ca_eq o3, o4, ca_eq o1, o36]
    by_cases q : tA s 54 v = 0
    · rw [if_pos q, if_pos q]
    · rw [if_neg q, if_neg q, ca_eq (prT_39 s u b num (k := ca s 51 v) (fun w => q (h54 v hv w)))]
  have hKT : KT s (prT s u b num) := ⟨fun x hx => by
    by_cases q : x = 50
    · rw [q, c50]; omega
    · rw [th_cnt hth (by simp only [List.mem_cons, List.not_mem_nil, or_false] at hx ⊢; omega)]; exact Nat.le_refl _, fun k _ => ⟨th_A hth (by decide) k, fun _ => th_A hth (by decide) k, th_A hth (by decide) k, by rw [th_ca hth (by decide)]; exact Nat.le_refl _, fun i _ => th_A hth (by decide) _⟩, fun v hv => ⟨(old v hv).1, hvI v hv, (old v hv).2.2.2, (old v hv).2.1⟩, fun k _ => th_B hth (by decide) k, fun k _ => th_A hth (by decide) k⟩
  have c53 : ca (prT s u b num) 53 (cnt s 50) = ow s u := ca_of (n3.trans hnum) (by omega)
  have hvn : vI (prT s u b num) (cnt s 50) = ow s u := by
    unfold vI
    rw [n4, if_pos rfl, c53]; rfl
  have hne : ∀ v, v < cnt s 50 → vo v ≠ cNx c := fun v hv q => by
    have := (hV.2.1 v hv).1
    rw [q, (hn _ (Nat.le_refl _)).1] at this
    cases this
  have hlid : ∀ k, lid (prC c (lid c (r + 8) u) (ow s u) a (ca s 39 u)) (r + 8) k = lid c (r + 8) k := fun _ => rfl
  have g1 : cCl (prC c (lid c (r + 8) u) (ow s u) a (ca s 39 u)) (cNx c) = 17 := by simp [prC, vrC, nwC, gC]
  have g2 : cR (prC c (lid c (r + 8) u) (ow s u) a (ca s 39 u)) 1701 (cNx c) = .ref (lid c (r + 8) u) := by simp [prC, vrC, nwC, gC]
  have g3 : cR (prC c (lid c (r + 8) u) (ow s u) a (ca s 39 u)) 1702 (cNx c) = .null := by simp [prC, vrC, nwC, gC]
  have g4 : cI (prC c (lid c (r + 8) u) (ow s u) a (ca s 39 u)) 1703 (cNx c) = Int32.ofNat (ow s u) := by simp [prC, vrC, nwC, gC]
  have g5 : cL (prC c (lid c (r + 8) u) (ow s u) a (ca s 39 u)) 1700 (cNx c) = a := by simp [prC, vrC, nwC, gC]
  have hV1 := RVt_fr hch hid hS hU (by decide) hV
  have hV2 := RVt_var hV1 hU.1.2 (TH_wk (by decide) hth) e50 h500 (fun v hv => ⟨(old v hv).1, (old v hv).2.2.1, (old v hv).2.2.2⟩) hvI hu g1 g2 g3 (by rw [hvn]; exact g4) n1 (Or.inl n4) (aok_of (n3.trans hnum) (by omega) (by omega)) hne
  refine ⟨⟨LX_ch hch hth rfl rfl (by decide) hL, hfi, hncl, ⟨RSt_fr hch (by decide) hS, RCt_fr hch hth hS (by decide) hC, RGt_fr hch hth hS (by decide) hG, RLt_fr hch hth hS (by decide) hLm, RMt_fr hch hth hS (by decide) (by decide) hM, ⟨hU.1, lsr_fr hch (RSt_uL hS) (by decide) (by decide) (by decide) hU.2.1, fun k hk => ?_⟩, hV2, RIt_var (RIt_fr hch hid hS hV (by decide) hI) (TH_wk (by decide) hth) (by omega) (fun v hv => ⟨(old v hv).1, (old v hv).2.1⟩) (fun v hv => if_neg (by omega)), RFt_fr hch hth hS hU (by decide) hF, RAt_fr hch hth hS (by decide) hA, ?_⟩, hN', hOu, hOp, hOa, hOu2⟩, hKC, hKT, u8, hcu, g5⟩
  · have hck := (hU.2.1.2 k (by show k < cnt s 35; exact hk)).2
    have hkne : lid c (r + 8) k ≠ cNx c := fun q => by rw [q, (hn _ (Nat.le_refl _)).1] at hck; cases hck
    rw [hlid]
    by_cases q : k = u
    · rw [q]
      refine uOK_fr2 hch hth hS (by decide) hcu (hU.2.2 u hu) ⟨aok_of e39 (by omega) (by omega), ?_⟩ ⟨by rw [aok_eq (o46 u)]; exact u46, ?_⟩
      · rw [e39]; simp [prC, gC]
      · rw [how]; simp [prC, vrC, nwC, gC, hune]
    · obtain ⟨_, _, _, _, _, ⟨k39, k7⟩, ⟨k46, k8⟩, _⟩ := hU.2.2 k hk
      have hl : lid c (r + 8) k ≠ lid c (r + 8) u := fun w => q (u_inj h0 hk hu w)
      have e39k := prT_39 s u b num q
      have : ow (prT s u b num) k = ow s k := by
        unfold ow
        rw [o36, ca_eq e39k, ca_eq (o46 k)]
      refine uOK_fr2 hch hth hS (by decide) hck (hU.2.2 k hk) ⟨by rw [aok_eq e39k]; exact k39, ?_⟩ ⟨by rw [aok_eq (o46 k)]; exact k46, ?_⟩
      · rw [e39k, ← k7]; simp [prC, vrC, nwC, gC, hl]
      · rw [this, ← k8]; simp [prC, vrC, nwC, gC, hl]
  · exact RBt_mono hKC hKT hU.2.1.1 (fun v hv => (hV.2.1 v hv).2.2.1) (th_cnt hth (by decide)) (by rw [th_cnt hth (by decide)]; exact Nat.le_refl _) (fun k hk _ => ch_R hch (RUt_cap hU hk).2.2.2 (by decide) (by decide)) (fun k _ _ => th_A hth (by decide) k) (fun y _ _ z hz => th_A hth (by simp only [List.mem_cons, List.not_mem_nil, or_false] at hz ⊢; omega) y) hB
end
/-- a fault of a member that gives nothing back -/
def pN (n f : Nat) (c : cS) (rc : cRes) (rt : tR) : Prop := ∃ a c' s' k pl, rc = some (.inr (.ref a), c') ∧ rt = some (.inl none, s') ∧ thr c' a k pl ∧ tI s' 6 = k ∧ tI s' 7 = pl ∧ k ≠ 0 ∧ cNx c' ≤ cNx c + 300 * (n - f) + 100 ∧ cSl c' ≤ cSl c + 2000 * (n - f) + 800
section
variable {χ : Nat → Int32} {n t r : Nat} {Op Oa Ou : Nat → Prop} {E O : Nat}
theorem dup_loop (d e : Nat) {p f : Nat} {vo : Nat → Nat} {c : cS} {q s : tS} {lu u b0 : Nat} {od : Int32} {v803 : Value} (hR : RP χ n t r p f vo Op Oa Ou E O (csR c 803 r v803) s) (hq : VQ q s) (h8 : tI s 8 = 1) :
    ∀ k j, j + k = cnt s 56 → (fX8_parameters_35 (cC (d + 15)) (.ref r) (.ref lu) (Int32.ofNat b0) (cL c 1007 (r + 16)) (Int32.ofNat j) c = some (.inr (.ref (cNx c)), wH c 2 (cI c 1005 (r + 16))) ∧ fX7_parameters_37 (cT (e + 2)) (Int32.ofNat u) od (Int32.ofNat b0) (Int32.ofNat j) q = some (.inl none, fH q 2 (tI q 9))) ∨
      (fX8_parameters_35 (cC (d + 15)) (.ref r) (.ref lu) (Int32.ofNat b0) (cL c 1007 (r + 16)) (Int32.ofNat j) c = fX8_parameters_35 (cC (d + 15)) (.ref r) (.ref lu) (Int32.ofNat b0) (cL c 1007 (r + 16)) (Int32.ofNat (cnt s 56)) c ∧ fX7_parameters_37 (cT (e + 2)) (Int32.ofNat u) od (Int32.ofNat b0) (Int32.ofNat j) q = fX7_parameters_37 (cT (e + 2)) (Int32.ofNat u) od (Int32.ofNat b0) (Int32.ofNat (cnt s 56)) q) := by
  have hS := hR.2.2.2.1.1
  have hV := hR.2.2.2.1.2.2.2.2.2.2.1
  obtain ⟨_, _, ⟨i3, i4, i5⟩, _⟩ := hR.2.2.2.1.2.2.2.2.2.2.2.1
  have h12 : cnt s 56 ≤ 12 := i3.2
  have h5 : cnt s 50 ≤ 500 := hV.1.2
  have hab : nm (cL c 1007 (r + 16)) (tL s 12) := (lw_1 hR.1.2.2.2.2.2 h8).2
  have hr : cCl c r = 8 := hS.1
  have hw : cCl c (r + 16) = 10 := hR.1.1.1.1
  have h800 : cR c 800 r = .ref (r + 16) := by have := hS.2.1; rw [g_R_R, if_neg (by simp)] at this; exact this
  have h805 : cR c 805 r = .ref (r + 15) := by have := hS.2.2.2.1; rw [g_R_R, if_neg (by simp)] at this; exact this
  have hvL : cCl c (r + 15) = 5805 := RSt_vL (c := csR c 803 r v803) hS
  have hl : r + 16 < cNx c := hR.1.1.2.2.2.2.1.1
  have i4' : (cLs c (r + 15)).length = cnt s 56 := i4
  have e56 : tI q 56 = Int32.ofNat (cnt s 56) := (th_I hq (by decide)).symm.trans i3.1
  have e12 : tL q 12 = tL s 12 := (hq.2.1 12 (by simp)).symm
  have z1 : (1 : Int32) = Int32.ofNat 1 := rfl
  intro k
  induction k with
  | zero =>
    intro j hj
    right
    rw [show j = cnt s 56 by omega]
    exact ⟨rfl, rfl⟩
  | succ k ih =>
    intro j hj
    obtain ⟨a1, a2, a3, a4, _⟩ := i5 j (show j < cnt s 56 by omega)
    have a1' : tA q 57 j = Int32.ofNat (ca s 57 j) := (th_A hq (by decide) j).symm.trans a1.1
    have a2' : ca s 57 j < cnt s 50 := a2
    have a3' : nthD .null (cLs c (r + 15)) j = .ref (vo (ca s 57 j)) := a3
    have a4' : nm (cL c 1700 (vo (ca s 57 j))) (tB s 52 (ca s 57 j)) := a4
    have e52 : tB q 52 (ca s 57 j) = tB s 52 (ca s 57 j) := (th_B hq (by decide) _).symm
    have hc : cCl c (vo (ca s 57 j)) = 17 := (hV.2.1 _ a2').1
    have hiff := nm_eq a4' hab
    have hlt : Int32.ofNat j < Int32.ofNat (cnt s 56) := Eq.mpr (z_lt (by omega) (by omega)) (by omega)
    have eC : fX8_parameters_35 (cC (d + 15)) (.ref r) (.ref lu) (Int32.ofNat b0) (cL c 1007 (r + 16)) (Int32.ofNat j) c = if cL c 1700 (vo (ca s 57 j)) = cL c 1007 (r + 16) then bV (cC (d + 15) 803 [eR (.ref r), eI 0, eI 2] c) fun h21 => fX8_parameters_35 (cC (d + 15)) (.ref r) (.ref lu) (Int32.ofNat b0) (cL c 1007 (r + 16)) (Int32.ofNat j + 1) h21 else bV (cC (d + 15) 803 [eR (.ref r), eI 1, eI 2] c) fun h22 => fX8_parameters_35 (cC (d + 15)) (.ref r) (.ref lu) (Int32.ofNat b0) (cL c 1007 (r + 16)) (Int32.ofNat j + 1) h22 := by
      rw [uX8_parameters_35, r_cgR, if_pos hr, h805, c_len (d + 6) hvL rfl, b_I, i4', if_pos hlt, r_cgR, if_pos hr, h805, c_get (d + 6) hvL rfl (by rw [i4']; omega) (by omega), b_R, a3', r_castR, if_pos (Or.inl hc), r_cgL, if_pos hc]
      simp only [lg_cmp_eq]
    have eT : fX7_parameters_37 (cT (e + 2)) (Int32.ofNat u) od (Int32.ofNat b0) (Int32.ofNat j) q = if tB s 52 (ca s 57 j) = tL s 12 then bV (cT (e + 2) 13 [eR (.ref 0), eI 2] q) fun h14 => some (.inl none, h14) else fX7_parameters_37 (cT (e + 2)) (Int32.ofNat u) od (Int32.ofNat b0) (Int32.ofNat j + 1) q := by
      rw [uX7_parameters_37, e56, if_pos hlt, q_57 (by omega), a1', q_52 (by omega), e52, e12]
      simp only [lg_cmp_eq]
    rw [eC, eT]
    by_cases w : tB s 52 (ca s 57 j) = tL s 12
    · left
      rw [if_pos w, if_pos (hiff.2 w)]
      have em : cC (d + 15) 803 [eR (.ref r), eI 0, eI 2] c = some (.inr (.ref (cNx c)), wH c 2 (cI c 1005 (r + 16))) := (c_must (d + 1) false 2 hr h800 hw hl).trans (if_neg (by decide))
      rw [em, b_Vx, t_fails e, b_V]
      exact ⟨rfl, rfl⟩
    · rw [if_neg w, if_neg (fun z => w (hiff.1 z))]
      have em : cC (d + 15) 803 [eR (.ref r), eI 1, eI 2] c = some (.inl none, c) := (c_must (d + 1) true 2 hr h800 hw hl).trans (if_pos rfl)
      rw [em, b_V, z1, z_add]
      exact ih (j + 1) (by omega)
/-- while parameters are read: q is the reference's state, s as it is meant -/
def PI (χ : Nat → Int32) (n t r u lu b0 : Nat) (od : Int32) (Op Oa Ou : Nat → Prop) (E O : Nat) (vo : Nat → Nat) (p f : Nat) (c : cS) (q s : tS) : Prop :=
  RP χ n t r p f vo Op Oa Ou E O (csR c 803 r (.ref lu)) s ∧ VQ q s ∧ tI s 64 = Int32.ofNat u ∧ u < cnt s 35 ∧ lid c (r + 8) u = lu ∧ ca s 46 u = 0 ∧ (∀ v, v < cnt s 50 → ca s 51 v = u → tA s 54 v = 0) ∧ od = Int32.ofNat (if tA s 36 u = 0 then 1 else 0) ∧ (∀ i, b0 ≤ i → i < cnt s 56 → ca s 51 (ca s 57 i) = u) ∧ b0 ≤ cnt s 56 ∧ (∃ Lt, (∀ k, k < cnt s 35 → ca s 46 k ≤ Lt) ∧ cnt s 50 + 3 ≤ 4 * cnt s 35 + Lt + ca s 39 u ∧ 7 * Lt ≤ f + O ∧ O ≤ 4 * cnt s 63)
/-- what parameters change -/
def PQ (n r lu u : Nat) (vo : Nat → Nat) (f : Nat) (c : cS) (q s : tS) (vo' : Nat → Nat) (f' : Nat) (c' : cS) (q' s' : tS) : Prop :=
  KC r (csR c 803 r (.ref lu)) (csR c' 803 r (.ref lu)) ∧ KT s s' ∧ TH [8, 9, 10, 11, 14, 15, 50, 56] [12] [39, 51, 53, 54, 57] [13, 52] s s' ∧ (∀ i, i < cnt s 56 → tA s' 57 i = tA s 57 i) ∧ cnt s 56 ≤ cnt s' 56 ∧ (∀ v, v < cnt s 50 → vo' v = vo v) ∧ cnt s 50 ≤ cnt s' 50 ∧ (∀ b, raw (csR c 803 r (.ref lu)) b → raw (csR c' 803 r (.ref lu)) b) ∧ cNx c' + 300 * (n - f') ≤ cNx c + 300 * (n - f) ∧ cSl c' + 2000 * (n - f') ≤ cSl c + 2000 * (n - f) ∧ f ≤ f' ∧ cR c' 803 r = cR c 803 r ∧ (∀ k, k ≠ u → tA s' 39 k = tA s 39 k) ∧ TH [8, 9, 10, 11, 14, 15, 50, 56] [12] [39, 51, 53, 54, 57] [13, 52] q q'
theorem PQ_refl (n r lu u : Nat) (vo : Nat → Nat) (f : Nat) (c : cS) (q s : tS) : PQ n r lu u vo f c q s vo f c q s :=
  ⟨KC_refl _ _, KT_refl _, TH_refl _ _ _ _ s, fun _ _ => rfl, Nat.le_refl _, fun _ _ => rfl, Nat.le_refl _, fun _ q => q, Nat.le_refl _, Nat.le_refl _, Nat.le_refl _, rfl, fun _ _ => rfl, TH_refl _ _ _ _ q⟩
theorem PQ_trans {lu u f1 f2 f3 : Nat} {vo1 vo2 vo3 : Nat → Nat} {c1 c2 c3 : cS} {q1 q2 q3 s1 s2 s3 : tS} (hl : (cLs c1 (r + 8)).length ≤ (cLs c2 (r + 8)).length) (h : PQ n r lu u vo1 f1 c1 q1 s1 vo2 f2 c2 q2 s2) (k : PQ n r lu u vo2 f2 c2 q2 s2 vo3 f3 c3 q3 s3) : PQ n r lu u vo1 f1 c1 q1 s1 vo3 f3 c3 q3 s3 := by
  obtain ⟨h1, h2, h3, h4, h5, h6, h7, h8, h9, h10, h11, h12, h13, h14⟩ := h
  obtain ⟨k1, k2, k3, k4, k5, k6, k7, k8, k9, k10, k11, k12, k13, k14⟩ := k
  exact ⟨KC_trans (show (cLs (csR c1 803 r (.ref lu)) (r + 8)).length ≤ (cLs (csR c2 803 r (.ref lu)) (r + 8)).length from hl) h1 k1, KT_trans h2 k2, TH_trans h3 k3, fun i hi => (k4 i (by omega)).trans (h4 i hi), by omega, fun v hv => (k6 v (by omega)).trans (h6 v hv), by omega, fun b q => k8 b (h8 b q), by omega, by omega, by omega, k12.trans h12, fun x hx => (k13 x hx).trans (h13 x hx), TH_trans h14 k14⟩
end
