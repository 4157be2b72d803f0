set_option maxRecDepth 100000
set_option maxHeartbeats 2000000
/-! D18: what goes on growing: a part's tree stays -/
/-- fields that stay once they are set -/
def fI : List Nat := [1201, 1500, 1600, 1601, 1602, 1703, 2500, 2501, 2900, 2901, 3001, 3102, 3300]
def fL : List Nat := [1400, 1501, 1700, 3002]
def fR : List Nat := [800, 801, 805, 900, 901, 902, 903, 904, 905, 906, 907, 1200, 1300, 1301, 1401, 1502, 1503, 1505, 1507, 1603, 1604, 1605, 1614, 1617, 1701, 1702, 1900, 1901, 1902, 2000, 2001, 2002, 2100, 2101, 2102, 2300, 2400, 2401, 2600, 2700, 2902, 2903, 3000, 3003, 3100, 3101, 3200, 3201, 3301, 3302]
def KC (r : Nat) (c c' : cS) : Prop := cNx c ≤ cNx c' ∧ cSl c ≤ cSl c' ∧ (∀ a, cCl c a ≠ 0 → cCl c' a = cCl c a ∧ cLen c' a = cLen c a) ∧
  (∀ x a, x ∈ fI → live c a → cI c' x a = cI c x a) ∧ (∀ x a, x ∈ fL → live c a → cL c' x a = cL c x a) ∧ (∀ x a, x ∈ fR → live c a → (x = 2903 → cR c 2903 a ≠ .null) → cR c' x a = cR c x a) ∧
  (∀ a, cCl c a = 5890 ∨ cCl c a = 5891 → ¬ unr c a → cLs c' a = cLs c a) ∧ ((∀ a j, cCl c a = 6200 → cAL c' a j = cAL c a j) ∧ (∀ a i, cCl c a = 6617 ∨ cCl c a = 5905 → i < (cLs c a).length → i < (cLs c' a).length ∧ (nthD .null (cLs c a) i ≠ .null → nthD .null (cLs c' a) i = nthD .null (cLs c a) i)) ∧ ∀ a, cCl c a = 16 → cI c 1612 a = 1 → cI c' 1612 a = 1) ∧
  (∀ k, k < (cLs c (r + 8)).length → lid c' (r + 8) k = lid c (r + 8) k)
theorem KC_refl (r : Nat) (c : cS) : KC r c c := ⟨Nat.le_refl _, Nat.le_refl _, fun _ _ => ⟨rfl, rfl⟩, fun _ _ _ _ => rfl, fun _ _ _ _ => rfl, fun _ _ _ _ _ => rfl, fun _ _ _ => rfl, ⟨fun _ _ _ => rfl, fun _ _ _ q => ⟨q, fun _ => rfl⟩, fun _ _ q => q⟩, fun _ _ => rfl⟩
def KT (s s' : tS) : Prop := (∀ x, x ∈ [25, 35, 48, 50, 58, 60, 65] → cnt s x ≤ cnt s' x) ∧
  (∀ k, k < cnt s 35 → tA s' 36 k = tA s 36 k ∧ (tA s 42 k ≠ -1 → tA s' 42 k = tA s 42 k) ∧ tA s' 40 k = tA s 40 k ∧ ca s 44 k ≤ ca s' 44 k ∧ ∀ i, i < ca s 44 k → tA s' 45 (16 * k + i) = tA s 45 (16 * k + i)) ∧
  (∀ v, v < cnt s 50 → tA s' 51 v = tA s 51 v ∧ vI s' v = vI s v ∧ tA s' 54 v = tA s 54 v ∧ tB s' 52 v = tB s 52 v) ∧ ((∀ k, k < cnt s 60 → tB s' 61 k = tB s 61 k) ∧ ∀ k, k < cnt s 48 → tA s' 136 k = tA s 136 k)
theorem KT_refl (s : tS) : KT s s := ⟨fun _ _ => Nat.le_refl _, fun _ _ => ⟨rfl, fun _ => rfl, rfl, Nat.le_refl _, fun _ _ => rfl⟩, fun _ _ => ⟨rfl, rfl, rfl, rfl⟩, fun _ _ => rfl, fun _ _ => rfl⟩
theorem KT_trans {a b c : tS} (h : KT a b) (k : KT b c) : KT a c := by
  obtain ⟨h1, h2, h3, h4⟩ := h
  obtain ⟨k1, k2, k3, k4⟩ := k
  refine ⟨fun x hx => Nat.le_trans (h1 x hx) (k1 x hx), fun i hi => ?_, fun v hv => ?_, fun i hi => ?_, fun i hi => (k4.2 i (Nat.lt_of_lt_of_le hi (h1 48 (by simp)))).trans (h4.2 i hi)⟩
  · obtain ⟨a1, a2, a3, a4, a5⟩ := h2 i hi
    obtain ⟨b1, b2, b3, b4, b5⟩ := k2 i (Nat.lt_of_lt_of_le hi (h1 35 (by simp)))
    exact ⟨b1.trans a1, fun q => (b2 (by rw [a2 q]; exact q)).trans (a2 q), b3.trans a3, Nat.le_trans a4 b4, fun j hj => (b5 j (Nat.lt_of_lt_of_le hj a4)).trans (a5 j hj)⟩
  · obtain ⟨a1, a2, a3, a4⟩ := h3 v hv
    obtain ⟨b1, b2, b3, b4⟩ := k3 v (Nat.lt_of_lt_of_le hv (h1 50 (by simp)))
    exact ⟨b1.trans a1, b2.trans a2, b3.trans a3, b4.trans a4⟩
  · exact (k4.1 i (Nat.lt_of_lt_of_le hi (h1 60 (by simp)))).trans (h4.1 i hi)
theorem KC_trans {r : Nat} {a b c : cS} (hl : (cLs a (r + 8)).length ≤ (cLs b (r + 8)).length) (h : KC r a b) (k : KC r b c) : KC r a c := by
  obtain ⟨h1, h2, h3, h4, h5, h6, h7, h8, h9⟩ := h
  obtain ⟨k1, k2, k3, k4, k5, k6, k7, k8, k9⟩ := k
  have e : ∀ x, cCl a x ≠ 0 → cCl b x ≠ 0 := fun x hx => by rw [(h3 x hx).1]; exact hx
  have el : ∀ x, live a x → live b x := fun x hx => by
    refine ⟨e x hx.1, fun q => hx.2 ?_⟩
    unfold raw0 at q ⊢
    rw [(h3 x hx.1).1, h6 3301 x (by decide) hx (fun q => absurd q (by decide)), h6 3100 x (by decide) hx (fun q => absurd q (by decide)), h6 3000 x (by decide) hx (fun q => absurd q (by decide)), h6 2000 x (by decide) hx (fun q => absurd q (by decide))] at q
    exact q
  have eu : ∀ L, unr b L → unr a L := fun L hL o => by
    obtain ⟨u1, u2, u3⟩ := hL o
    refine ⟨fun q => ?_, fun q z => ?_, fun q => ?_⟩
    · have hl' := live_of q (by decide : okc 27 = true)
      have := u1 (by rw [(h3 o hl'.1).1]; exact q)
      rw [h6 2700 o (by decide) hl' (fun q => absurd q (by decide))] at this; exact this
    · obtain ⟨p, hp⟩ := z
      have hl' := live_30 q hp
      have := u2 (by rw [(h3 o hl'.1).1]; exact q) ⟨p, by rw [h6 3000 o (by decide) hl' (fun q => absurd q (by decide))]; exact hp⟩
      rw [h6 3003 o (by decide) hl' (fun q => absurd q (by decide))] at this; exact this
    · have hl' := live_of q (by decide : okc 32 = true)
      have := u3 (by rw [(h3 o hl'.1).1]; exact q)
      rw [h6 3201 o (by decide) hl' (fun q => absurd q (by decide))] at this; exact this
  refine ⟨Nat.le_trans h1 k1, Nat.le_trans h2 k2, fun x hx => ⟨(k3 x (e x hx)).1.trans (h3 x hx).1, (k3 x (e x hx)).2.trans (h3 x hx).2⟩, fun x y hx hy => (k4 x y hx (el y hy)).trans (h4 x y hx hy), fun x y hx hy => (k5 x y hx (el y hy)).trans (h5 x y hx hy), fun x y hx hy h9 => (k6 x y hx (el y hy) (fun q => by rw [h6 2903 y (q ▸ hx) hy (fun _ => h9 q)]; exact h9 q)).trans (h6 x y hx hy h9), fun x hx hu => ?_, ⟨fun x j hx => ?_, fun x j hx q => ?_, fun x hx q => k8.2.2 x (by rw [(h3 x (by rw [hx]; decide)).1]; exact hx) (h8.2.2 x hx q)⟩, fun i hi => (k9 i (Nat.lt_of_lt_of_le hi hl)).trans (h9 i hi)⟩
  · have hn : cCl a x ≠ 0 := by rcases hx with q | q <;> rw [q] <;> decide
    rw [k7 x (by rw [(h3 x hn).1]; exact hx) (fun z => hu (eu x z)), h7 x hx hu]
  · have hn : cCl a x ≠ 0 := by rw [hx]; decide
    rw [k8.1 x j (by rw [(h3 x hn).1]; exact hx), h8.1 x j hx]
  · have hn : cCl a x ≠ 0 := by rcases hx with e | e <;> rw [e] <;> decide
    obtain ⟨y1, y2⟩ := h8.2.1 x j hx q
    obtain ⟨y3, y4⟩ := k8.2.1 x j (by rw [(h3 x hn).1]; exact hx) y1
    exact ⟨y3, fun z => (y4 (by rw [y2 z]; exact z)).trans (y2 z)⟩
section
variable {c c' : cS} {s s' : tS} {r : Nat}
theorem kc_cl (h : KC r c c') {a k : Nat} (e : cCl c a = k) (hk : k ≠ 0) : cCl c' a = k := by rw [(h.2.2.1 a (by rw [e]; exact hk)).1, e]
theorem kc_I (h : KC r c c') {a k x : Nat} (e : cCl c a = k) (hk : okc k = true) (hx : x ∈ fI) : cI c' x a = cI c x a := h.2.2.2.1 x a hx (live_of e hk)
theorem kc_I' (h : KC r c c') {a x : Nat} (e : live c a) (hx : x ∈ fI) : cI c' x a = cI c x a := h.2.2.2.1 x a hx e
theorem kc_L (h : KC r c c') {a k x : Nat} (e : cCl c a = k) (hk : okc k = true) (hx : x ∈ fL) : cL c' x a = cL c x a := h.2.2.2.2.1 x a hx (live_of e hk)
theorem kc_L' (h : KC r c c') {a x : Nat} (e : live c a) (hx : x ∈ fL) : cL c' x a = cL c x a := h.2.2.2.2.1 x a hx e
theorem kc_R (h : KC r c c') {a k x : Nat} (e : cCl c a = k) (hk : okc k = true) (hx : x ∈ fR) (h9 : x ≠ 2903 := by decide) : cR c' x a = cR c x a := h.2.2.2.2.2.1 x a hx (live_of e hk) (fun q => absurd q h9)
theorem kc_R' (h : KC r c c') {a x : Nat} (e : live c a) (hx : x ∈ fR) (h9 : x ≠ 2903 := by decide) : cR c' x a = cR c x a := h.2.2.2.2.2.1 x a hx e (fun q => absurd q h9)
theorem kc_Ls0 (h : KC r c c') {a : Nat} (e : cCl c a = 5890) (hu : ¬ unr c a) : cLs c' a = cLs c a := h.2.2.2.2.2.2.1 a (Or.inl e) hu
theorem kc_Ls1 (h : KC r c c') {a : Nat} (e : cCl c a = 5891) (hu : ¬ unr c a) : cLs c' a = cLs c a := h.2.2.2.2.2.2.1 a (Or.inr e) hu
theorem aok_eq {x k b : Nat} (e : tA s' x k = tA s x k) : aok s' x k b = aok s x k b := by unfold aok ca; rw [e]
theorem ca_eq {x k : Nat} (e : tA s' x k = tA s x k) : ca s' x k = ca s x k := by unfold ca; rw [e]
theorem useOK_mono (h : KC r c c') (ht : KT s s') (hlen : (cLs c (r + 8)).length = cnt s 35) {u v o : Nat} (hu : u < cnt s 35) (hv : ca s 51 v < cnt s 35) (hC : useOK r c s u v o) : useOK r c' s' u v o := by
  obtain ⟨q1, q2, q3, q4⟩ := hC
  obtain ⟨t1, t2, t3, t4⟩ := ht
  obtain ⟨a1, a2, a3, a4, a5⟩ := t2 u hu
  obtain ⟨v1, v2, v3, v4⟩ := t3 v q3
  obtain ⟨w1, w2, w3, w4, w5⟩ := t2 _ hv
  have hvI : vI s' v = vI s v := v2
  unfold useOK
  rw [kc_R h q1 (by decide) (x := 1701) (by decide), kc_R h q1 (by decide) (x := 1702) (by decide), kc_I h q1 (by decide) (by decide), h.2.2.2.2.2.2.2.2 u (by rw [hlen]; exact hu), hvI, v1]
  refine ⟨kc_cl h q1 (by decide), q2, Nat.lt_of_lt_of_le q3 (t1 50 (by simp)), ?_⟩
  rcases q4 with q4 | ⟨o', e1, e2, i, e3, e4, e5⟩
  · left; exact q4
  · right; exact ⟨o', e1, e2, i, Nat.lt_of_lt_of_le e3 a4, by rw [a5 i e3]; exact e4, e5⟩
theorem chn_mono {T T' : Nat → Nat → Nat → Prop} (hT : ∀ a y W, T a y W → T' a y W ∧ tA s' 71 y = tA s 71 y) : ∀ (l : List Nat) (p : Int32) (W : Nat), chn T s l p W → chn T' s' l p W := by
  intro l
  induction l with
  | nil => intro p W h; exact h
  | cons a l ih =>
    intro p W h
    obtain ⟨y, W1, W2, h1, h2, h3, h4, h5⟩ := h
    obtain ⟨k1, k2⟩ := hT a y W1 h3
    exact ⟨y, W1, W2, h1, h2, k1, h4, by rw [k2]; exact ih _ _ h5⟩
theorem chn_wk {T T' : Nat → Nat → Nat → Prop} (hT : ∀ a y W, T a y W → T' a y W) {l : List Nat} {p : Int32} {W : Nat} (h : chn T s l p W) : chn T' s l p W := chn_mono (fun a y W q => ⟨hT a y W q, rfl⟩) l p W h
theorem TR_Q {Q Q' : Nat → Prop} (hQ : ∀ y, Q y → Q' y) : ∀ g u H D a x W, TR g Q r c s u H D a x W → TR g Q' r c s u H D a x W := by
  intro g
  induction g with
  | zero => intro u H D a x W h; exact h
  | succ g ih =>
    intro u H D a x W h
    have hc : ∀ H D l p W, chn (fun b y W => Q y ∧ TR g Q r c s u H D b y W) s l p W → chn (fun b y W => Q' y ∧ TR g Q' r c s u H D b y W) s l p W := fun H D l p W q => chn_wk (fun a y W z => ⟨hQ y z.1, ih _ _ _ _ _ _ z.2⟩) q
    unfold TR at h ⊢
    rcases h with ⟨h1, L, b, h2, h3, h4, h5⟩ | ⟨n1, n2, n3, n4, n5, n6, h⟩
    · left; exact ⟨h1, L, b, h2, h3, h4, ih _ _ _ _ _ _ h5⟩
    · right
      refine ⟨n1, n2, n3, n4, n5, n6, ?_⟩
      rcases h with h | h | h | h | h | h | h | h | h | h | h | h | h | h
      · left; exact h
      · right; left; exact h
      · right; right; left; exact h
      · right; right; right; left
        obtain ⟨e1, e2, e3, e4, a1, W1, e5, e6, e7⟩ := h
        exact ⟨e1, e2, e3, e4, a1, W1, e5, hc _ _ _ _ _ e6, e7⟩
      · right; right; right; right; left
        obtain ⟨e1, e2, e3, e4, a1, a2, y, W1, W2, e5, e6, e7, e8, e9, e10, e11, e12, e13⟩ := h
        exact ⟨e1, e2, e3, e4, a1, a2, y, W1, W2, e5, e6, e7, e8, e9, hQ y e10, ih _ _ _ _ _ _ e11, hc _ _ _ _ _ e12, e13⟩
      · right; right; right; right; right; left
        obtain ⟨e1, e2, e3, e4, a1, l, y, W1, W2, e5, e6, e7, e8, e9, e10, e11, e12, e13⟩ := h
        exact ⟨e1, e2, e3, e4, a1, l, y, W1, W2, e5, e6, e7, e8, e9, hQ y e10, ih _ _ _ _ _ _ e11, hc _ _ _ _ _ e12, e13⟩
      · right; right; right; right; right; right; left
        obtain ⟨e1, e2, e3, e4, e5, e6, e7, e8, a1, L, l, y, W1, W2, f1, f2, f3, f4, f5, f6, f7, f8, f9, f10, f11, f12, f13⟩ := h
        exact ⟨e1, e2, e3, e4, e5, e6, e7, e8, a1, L, l, y, W1, W2, f1, f2, f3, f4, f5, f6, f7, f8, f9, hQ y f10, ih _ _ _ _ _ _ f11, hc _ _ _ _ _ f12, f13⟩
      · right; right; right; right; right; right; right; left
        obtain ⟨e1, e2, e7, e8, a1, L, l, y, W1, W2, f1, f2, f3, f4, f5, f6, f7, f8, f9, f10, f11, f12, f13⟩ := h
        exact ⟨e1, e2, e7, e8, a1, L, l, y, W1, W2, f1, f2, f3, f4, f5, f6, f7, f8, f9, hQ y f10, ih _ _ _ _ _ _ f11, hc _ _ _ _ _ f12, f13⟩
      · right; right; right; right; right; right; right; right; left
        obtain ⟨e1, e2, e3, e4, e5, e6, e7, e8, e9⟩ := h
        refine ⟨e1, e2, e3, e4, e5, e6, e7, e8, ?_⟩
        rcases e9 with e9 | e9 | ⟨f1, f2, a1, W1, f3, f4, f5⟩
        · left; exact e9
        · right; left; exact e9
        · right; right; exact ⟨f1, f2, a1, W1, f3, hc _ _ _ _ _ f4, f5⟩
      · right; right; right; right; right; right; right; right; right; left
        obtain ⟨e1, e2, o, v, a1, a2, W1, f1, f2, f3, f4, f5, f6, f7, f8⟩ := h
        exact ⟨e1, e2, o, v, a1, a2, W1, f1, f2, f3, f4, f5, f6, hc _ _ _ _ _ f7, f8⟩
      · right; right; right; right; right; right; right; right; right; right; left
        obtain ⟨e1, e2, a1, a2, a3, W1, f1, f2, f3, f4, f5⟩ := h
        exact ⟨e1, e2, a1, a2, a3, W1, f1, f2, f3, hc _ _ _ _ _ f4, f5⟩
      · right; right; right; right; right; right; right; right; right; right; right; left
        obtain ⟨e1, e2, e3, e4, o, v, a1, a2, y, W1, W2, f1, f2, f3, f4, f5, f6, f7, f8, f9, f10, f11, f12⟩ := h
        exact ⟨e1, e2, e3, e4, o, v, a1, a2, y, W1, W2, f1, f2, f3, f4, f5, f6, f7, f8, hQ y f9, ih _ _ _ _ _ _ f10, hc _ _ _ _ _ f11, f12⟩
      · right; right; right; right; right; right; right; right; right; right; right; right; left
        obtain ⟨e1, e2, L, l, W1, f1, f2, f3, f4, f5, f6⟩ := h
        exact ⟨e1, e2, L, l, W1, f1, f2, f3, f4, hc _ _ _ _ _ f5, f6⟩
      · right; right; right; right; right; right; right; right; right; right; right; right; right
        obtain ⟨e1, e2, e3, e4, e5, e6, e7⟩ := h
        refine ⟨e1, e2, e3, e4, e5, e6, ?_⟩
        rcases e7 with e7 | ⟨a1, W1, f1, f2, f3⟩
        · left; exact e7
        · right; exact ⟨a1, W1, f1, hc _ _ _ _ _ f2, f3⟩
end
