set_option maxRecDepth 100000
set_option maxHeartbeats 2000000
/-! D27: what a reading of an E gives -/
section
variable {χ : Nat → Int32} {n t r p f : Nat} {vo : Nat → Nat} {Op Oa Ou : Nat → Prop} {E O : Nat} {c c' : cS} {s s' : tS}
/-- what is again as it was behind an E -/
def K1 (s s' : tS) : Prop := cnt s' 25 = cnt s 25 ∧ cnt s 35 ≤ cnt s' 35 ∧ ∀ k, k < cnt s 35 → ¬ anc s 60 (cnt s 64) k → ca s' 44 k = ca s 44 k ∧ ¬ anc s' 60 (cnt s' 64) k
theorem K1_refl (s : tS) : K1 s s := ⟨rfl, Nat.le_refl _, fun _ _ h => ⟨rfl, h⟩⟩
theorem K1_trans {a b c : tS} (h : K1 a b) (k : K1 b c) : K1 a c := by
  obtain ⟨h1, h2, h3⟩ := h
  obtain ⟨k1, k2, k3⟩ := k
  refine ⟨k1.trans h1, Nat.le_trans h2 k2, fun x hx hn => ?_⟩
  obtain ⟨w1, w2⟩ := h3 x hx hn
  obtain ⟨w3, w4⟩ := k3 x (Nat.lt_of_lt_of_le hx h2) w2
  exact ⟨w3.trans w1, w4⟩
theorem K1_th {YI YL YA YB : List Nat} (ht : TH YI YL YA YB s s') (hd : (dj [25, 35, 64] YI && dj [40, 44] YA) = true) : K1 s s' := by
  simp only [Bool.and_eq_true] at hd
  refine ⟨th_cnt ht (dj_not hd.1 (by simp)), by rw [th_cnt ht (dj_not hd.1 (x := 35) (by simp))]; exact Nat.le_refl _, fun k hk h => ⟨th_ca ht (dj_not hd.2 (by simp)) k, ?_⟩⟩
  rw [anc_fr ht (dj_not hd.2 (by simp)), th_cnt ht (dj_not hd.1 (x := 64) (by simp))]
  exact h
theorem anc_cg (hU : RUt r c s) (h40 : ∀ k, k < cnt s 35 → tA s' 40 k = tA s 40 k) : ∀ g w v, w < cnt s 35 → anc s' g w v = anc s g w v := by
  intro g
  induction g with
  | zero => intro w v _; rfl
  | succ g ih =>
    intro w v hw
    unfold anc
    rw [h40 w hw, ca_eq (h40 w hw)]
    refine propext ⟨fun h => ?_, fun h => ?_⟩
    · rcases h with h | ⟨h1, h2⟩
      · exact Or.inl h
      · rcases (hU.2.2 w hw).2.2.1 with q3 | ⟨_, z2, _⟩
        · exact absurd q3.1 h1
        · exact Or.inr ⟨h1, by rw [← ih _ v (by omega)]; exact h2⟩
    · rcases h with h | ⟨h1, h2⟩
      · exact Or.inl h
      · rcases (hU.2.2 w hw).2.2.1 with q3 | ⟨_, z2, _⟩
        · exact absurd q3.1 h1
        · exact Or.inr ⟨h1, by rw [ih _ v (by omega)]; exact h2⟩
theorem anc_le (hU : RUt r c s) : ∀ g w v, w < cnt s 35 → anc s g w v → v ≤ w := by
  intro g
  induction g with
  | zero => intro w v _ h; exact absurd h (by simp [anc])
  | succ g ih =>
    intro w v hw h
    unfold anc at h
    rcases h with h | ⟨h1, h2⟩
    · omega
    · rcases (hU.2.2 w hw).2.2.1 with q3 | ⟨_, z2, _⟩
      · exact absurd q3.1 h1
      · have := ih _ v (by omega) h2; omega
theorem cap_lt (hU : RUt r c s) (hV : RVt r vo c s) : ∀ m k, k < m → k < cnt s 35 → ∀ i, i < ca s 44 k → ca s 51 (ca s 45 (16 * k + i)) < k := by
  intro m
  induction m with
  | zero => intro k hk; omega
  | succ m ih =>
    intro k hk hk35 i hi
    obtain ⟨_, _, v3, _⟩ := hV.2.2.2 k hk35
    obtain ⟨a1, a2, a3, _, _, a6, o, _, a8⟩ := v3 i hi
    rcases (hU.2.2 k hk35).2.2.1 with q3 | ⟨_, z2, _⟩
    · exact absurd q3.1 a3
    rcases a8 with ⟨w1, _⟩ | ⟨_, j, j1, j2, _⟩
    · have h60 := hU.1.2
      rw [ca_of w1 (by omega)]
      exact z2
    · have := ih (ca s 40 k) (by omega) (by omega) j j1
      have h5 := hV.1.2
      rw [ca_of j2 (by omega)] at this
      omega
theorem K1_kt (hU : RUt r c s) (hKT : KT s s') (h25 : cnt s' 25 = cnt s 25) (h64 : cnt s' 64 = cnt s 64) (hu : cnt s 64 < cnt s 35) (h44 : ∀ k, k < cnt s 35 → ca s' 44 k = ca s 44 k) : K1 s s' :=
  ⟨h25, hKT.1 35 (by simp), fun k hk h => ⟨h44 k hk, by rw [h64, anc_cg hU (fun k hk => (hKT.2.1 k hk).2.2.1) _ _ _ hu]; exact h⟩⟩
theorem anc_A (hA : tA s' = tA s) : ∀ g w v, anc s' g w v = anc s g w v := by
  intro g
  induction g with
  | zero => intro w v; rfl
  | succ g ih =>
    intro w v
    unfold anc
    have e : ca s' 40 w = ca s 40 w := by unfold ca; rw [hA]
    rw [hA, e, ih]
theorem K1_A (hA : tA s' = tA s) (h25 : cnt s' 25 = cnt s 25) (h35 : cnt s' 35 = cnt s 35) (h64 : cnt s' 64 = cnt s 64) : K1 s s' :=
  ⟨h25, by omega, fun k hk h => ⟨by unfold ca; rw [hA], by rw [h64, anc_A hA]; exact h⟩⟩
def KS (s s' : tS) : Prop := K1 s s' ∧ cnt s' 56 = cnt s 56 ∧ (∀ i, i < cnt s 56 → tA s' 57 i = tA s 57 i) ∧ cnt s' 63 = cnt s 63 ∧ cnt s' 64 = cnt s 64
theorem KS_refl (s : tS) : KS s s := ⟨K1_refl s, rfl, fun _ _ => rfl, rfl, rfl⟩
theorem KS_trans {a b c : tS} (h : KS a b) (k : KS b c) : KS a c := by
  obtain ⟨h1, h2, h3, h4, h5⟩ := h
  obtain ⟨k1, k2, k3, k4, k5⟩ := k
  exact ⟨K1_trans h1 k1, k2.trans h2, fun i hi => (k3 i (by omega)).trans (h3 i hi), k4.trans h4, k5.trans h5⟩
theorem KS_th {YI YL YA YB : List Nat} (ht : TH YI YL YA YB s s') (hd : (dj [25, 35, 56, 63, 64] YI && dj [40, 44, 57] YA) = true) : KS s s' := by
  simp only [Bool.and_eq_true] at hd
  have d1 : dj [25, 35, 64] YI = true := by have := hd.1; unfold dj at this ⊢; simp_all
  have d2 : dj [40, 44] YA = true := by have := hd.2; unfold dj at this ⊢; simp_all
  exact ⟨K1_th ht (by rw [d1, d2]; rfl), th_cnt ht (dj_not hd.1 (by simp)), fun i _ => th_A ht (dj_not hd.2 (by simp)) i, th_cnt ht (dj_not hd.1 (by simp)), th_cnt ht (dj_not hd.1 (by simp))⟩
theorem KS_pt (s : tS) : KS s (ptT s) := KS_th (YI := [62]) (YL := []) (YA := []) (YB := []) (TH_I (by simp) (TH_refl _ _ _ _ s)) (by decide)
/-- a fault; the reference answers a number that nobody asks for -/
def pB (n f : Nat) (c : cS) (rc : cRes) (rt : tR) : Prop := ∃ a c' y s' k pl, rc = some (.inr (.ref a), c') ∧ rt = some (.inl (some (eI y)), s') ∧ thr c' a k pl ∧ tI s' 6 = k ∧ tI s' 7 = pl ∧ k ≠ 0 ∧ cNx c' ≤ cNx c + 300 * (n - f) + 100 ∧ cSl c' ≤ cSl c + 2000 * (n - f) + 800
/-- a part a, a node x -/
def PXo (χ : Nat → Int32) (n t r f p : Nat) (vo : Nat → Nat) (Op Oa Ou : Nat → Prop) (E O : Nat) (c : cS) (s : tS) (H D a x : Nat) (c' : cS) (s' : tS) (p' f' : Nat) : Prop := ∃ vo' g W, RP χ n t r p' f' vo' Op Oa Ou (E + W) O c' s' ∧ ST n r f c s f' c' s' ∧ (∀ v, v < cnt s 50 → vo' v = vo v) ∧ cnt s 65 ≤ x ∧ x < cnt s' 65 ∧ TR g (fun y => cnt s 65 ≤ y ∧ y < cnt s' 65 ∧ y ≠ x) r c' s' (cnt s 64) H D a x W ∧ tA s' 71 x = -1 ∧ KS s s' ∧ p ≤ f'
def PX (χ : Nat → Int32) (n t r f p : Nat) (vo : Nat → Nat) (Op Oa Ou : Nat → Prop) (E O : Nat) (c : cS) (s : tS) (H D : Nat) (rc : cRes) (rt : tR) : Prop := pB n f c rc rt ∨ ∃ a x c' s' p' f', rc = some (.inl (some (eR (.ref a))), c') ∧ rt = some (.inl (some (eI (Int32.ofNat x))), s') ∧ PXo χ n t r f p vo Op Oa Ou E O c s H D a x c' s' p' f'
/-- a fault later on is a fault: the reference goes on behind it -/
theorem pB_step {f1 : Nat} {c1 : cS} {rc rc' : cRes} {rt rt' : tR} (h : pB n f1 c1 rc rt) (h1 : cNx c1 + 300 * (n - f1) ≤ cNx c + 300 * (n - f)) (h2 : cSl c1 + 2000 * (n - f1) ≤ cSl c + 2000 * (n - f))
    (hc : ∀ a c', rc = some (.inr (.ref a), c') → rc' = some (.inr (.ref a), c')) (ht : ∀ q s', rt = some (.inl (some (eI q)), s') → tI s' 6 ≠ 0 → ∃ q' s'', rt' = some (.inl (some (eI q')), s'') ∧ tI s'' 6 = tI s' 6 ∧ tI s'' 7 = tI s' 7) : pB n f c rc' rt' := by
  obtain ⟨a, c', q, s', k, pl, e1, e2, e3, e4, e5, e6, e7, e8⟩ := h
  obtain ⟨q', s'', g1, g2, g3⟩ := ht q s' e2 (by rw [e4]; exact e6)
  exact ⟨a, c', q', s'', k, pl, hc a c' e1, g1, e3, by rw [g2]; exact e4, by rw [g3]; exact e5, e6, by omega, by omega⟩
theorem RP_E {E' : Nat} (hE : E' ≤ E) (h : RP χ n t r p f vo Op Oa Ou E O c s) : RP χ n t r p f vo Op Oa Ou E' O c s := by
  obtain ⟨hL, hfi, hn, ⟨hS, hC, hG, hLm, hM, hU, hV, hI, hF, hA, hB⟩, hN, hOu, hOp, hOa, hOu2⟩ := h
  exact ⟨hL, hfi, hn, ⟨hS, hC, hG, hLm, hM, hU, hV, hI, hF, hA, RBt_E hE hB⟩, hN, hOu, hOp, hOa, hOu2⟩
theorem RP_len (h : RP χ n t r p f vo Op Oa Ou E O c s) : (cLs c (r + 8)).length = cnt s 35 := h.2.2.2.1.2.2.2.2.2.1.2.1.1
theorem ST_len {f' : Nat} {χ' : Nat → Int32} {t' p1 : Nat} {vo' : Nat → Nat} {Op' Oa' Ou' : Nat → Prop} {E' O' f1 : Nat} (h : RP χ n t r p f vo Op Oa Ou E O c s) (h' : RP χ' n t' r p1 f1 vo' Op' Oa' Ou' E' O' c' s') (hs : ST n r f c s f' c' s') : (cLs c (r + 8)).length ≤ (cLs c' (r + 8)).length := by
  rw [RP_len h, RP_len h']
  exact hs.2.1.1 35 (by simp)
theorem ST_lz {f0 : Nat} {c0 : cS} {s0 : tS} (hz : (cLs c0 (r + 8)).length = cnt s0 35) (h' : RP χ n t r p f vo Op Oa Ou E O c s) (hs : ST n r f0 c0 s0 f c s) : (cLs c0 (r + 8)).length ≤ (cLs c (r + 8)).length := by
  rw [hz, RP_len h']
  exact hs.2.1.1 35 (by simp)
/-- the trees that were made stay behind a step -/
theorem TR_ST {f1 f2 : Nat} {Q : Nat → Prop} {g u H D a x W : Nat} (h : RP χ n t r p f vo Op Oa Ou E O c s) (hs : ST n r f1 c s f2 c' s') (hu : u < cnt s 35) (hQ : ∀ y, Q y → y < cnt s 65) (ht : TR g Q r c s u H D a x W) : TR g Q r c' s' u H D a x W := by
  obtain ⟨hL, hfi, hn, ⟨hS, hC, hG, hLm, hM, hU, hV, hI, hF, hA, hB⟩, hN, hOu, hOp, hOa, hOu2⟩ := h
  obtain ⟨s1, s2, s3, s4, s5, s6, s7⟩ := hs
  have hr := TR_root _ _ _ _ _ _ _ ht
  exact TR_mono s1 s2 hU.2.1.1 (fun v hv => (hV.2.1 v hv).2.2.1) (fun y hy z hz => s3 y (hQ y hy) z hz) hu g H D a x W (fun z hz => s3 x hr.1 z (by simp only [List.mem_cons, List.not_mem_nil, or_false] at hz ⊢; omega)) ht
/-- the trees stay where links of other nodes, or of their own root, are written -/
theorem TR_links {Q : Nat → Prop} {g u H D a x W : Nat} (ht : TH [] [] [70, 71, 72] [] s s') (hQ : ∀ y, Q y → tA s' 70 y = tA s 70 y ∧ tA s' 71 y = tA s 71 y ∧ tA s' 72 y = tA s 72 y) (hx : tA s' 70 x = tA s 70 x) (h : RP χ n t r p f vo Op Oa Ou E O c s) (hu : u < cnt s 35) (hT : TR g Q r c s u H D a x W) : TR g Q r c s' u H D a x W := by
  obtain ⟨hL, hfi, hn, ⟨hS, hC, hG, hLm, hM, hU, hV, hI, hF, hA, hB⟩, hN, hOu, hOp, hOa, hOu2⟩ := h
  refine TR_mono (KC_refl r c) (KT_of ht (by decide)) hU.2.1.1 (fun v hv => (hV.2.1 v hv).2.2.1) (fun y hy z hz => ?_) hu g H D a x W (fun z hz => ?_) hT
  · obtain ⟨e1, e2, e3⟩ := hQ y hy
    by_cases q : z ∈ [70, 71, 72]
    · simp only [List.mem_cons, List.not_mem_nil, or_false] at q
      rcases q with q | q | q <;> rw [q] <;> assumption
    · exact th_A ht q y
  · by_cases q : z = 70
    · rw [q]; exact hx
    · refine th_A ht ?_ x
      simp only [List.mem_cons, List.not_mem_nil, or_false] at hz ⊢
      omega
end
