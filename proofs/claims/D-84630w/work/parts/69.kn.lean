set_option maxRecDepth 100000
set_option maxHeartbeats 2000000
/-! D19: a part's tree stays -/
section
variable {c c' : cS} {s s' : tS} {r : Nat}
theorem nthV_lt : ∀ (l : List Value) (i a : Nat), nthD .null l i = .ref a → i < l.length
  | [], i, a, h => by
    have h' : (Value.null) = .ref a := by cases i <;> exact h
    cases h'
  | _ :: l, 0, a, _ => Nat.succ_pos _
  | _ :: l, i + 1, a, h => Nat.succ_lt_succ (nthV_lt l i a h)
theorem TR_mono (h : KC r c c') (ht : KT s s') (hlen : (cLs c (r + 8)).length = cnt s 35) (hv : ∀ v, v < cnt s 50 → ca s 51 v < cnt s 35) {Q : Nat → Prop} (hQ : ∀ y, Q y → ∀ z, z ∈ [66, 67, 68, 69, 70, 71, 72] → tA s' z y = tA s z y) {u : Nat} (hu : u < cnt s 35) :
    ∀ g H D a x W, (∀ z, z ∈ [66, 67, 68, 69, 70] → tA s' z x = tA s z x) → TR g Q r c s u H D a x W → TR g Q r c' s' u H D a x W := by
  intro g
  have ht0 := ht
  obtain ⟨t1, t2, t3, t4⟩ := ht
  induction g with
  | zero => intro H D a x W _ h; exact h
  | succ g ih =>
    intro H D a x W hx hh
    have hT : ∀ H D b y W, Q y → TR g Q r c s u H D b y W → TR g Q r c' s' u H D b y W := fun H D b y W q z => ih H D b y W (fun z hz => hQ y q z (by simp only [List.mem_cons, List.not_mem_nil, or_false] at hz ⊢; omega)) z
    have hc : ∀ H D l p W, chn (fun b y W => Q y ∧ TR g Q r c s u H D b y W) s l p W → chn (fun b y W => Q y ∧ TR g Q r c' s' u H D b y W) s' l p W := fun H D l p W q => chn_mono (fun a y W z => ⟨⟨z.1, hT _ _ _ _ _ z.1 z.2⟩, hQ y z.1 71 (by simp)⟩) l p W q
    have e66 := hx 66 (by simp)
    have e67 := hx 67 (by simp)
    have e68 := hx 68 (by simp)
    have e69 := hx 69 (by simp)
    have e70 := hx 70 (by simp)
    have c66 := ca_eq e66
    have c67 := ca_eq e67
    have c68 := ca_eq e68
    have a66 : ∀ b, aok s' 66 x b = aok s 66 x b := fun b => aok_eq e66
    have a67 : ∀ b, aok s' 67 x b = aok s 67 x b := fun b => aok_eq e67
    have a68 : ∀ b, aok s' 68 x b = aok s 68 x b := fun b => aok_eq e68
    have m : ∀ x, x ∈ [25, 35, 48, 50, 58, 60, 65] → ∀ k, k < cnt s x → k < cnt s' x := fun x hx k hk => Nat.lt_of_lt_of_le hk (t1 x hx)
    have huse : ∀ v o, useOK r c s u v o → useOK r c' s' u v o := fun v o q => useOK_mono h ht0 hlen hu (hv v q.2.2.1) q
    unfold TR at hh ⊢
    simp only [e66, e67, e68, e69, e70, c66, c67, c68, a66, a67, a68]
    rcases hh with ⟨h1, L, b, h2, h3, h4, h5⟩ | ⟨n1, n2, n3, n4, n5, n6, hh⟩
    · left
      exact ⟨kc_cl h h1 (by decide), L, b, by rw [kc_R h h1 (by decide) (by decide)]; exact h2, kc_cl h h3 (by decide), by rw [kc_Ls0 h h3 (nunr_27 h1 h2)]; exact h4, ih _ _ _ _ _ hx h5⟩
    · right
      refine ⟨m 65 (by simp) _ n1, n2, n3, n4, n5, n6, ?_⟩
      rcases hh with hh | hh | hh | hh | hh | hh | hh | hh | hh | hh | hh | hh | hh | hh
      · left
        obtain ⟨q1, q2, q3, q4⟩ := hh
        rw [kc_I h q1 (by decide) (x := 2500) (by decide), kc_I h q1 (by decide) (x := 2501) (by decide)]
        refine ⟨kc_cl h q1 (by decide), q2, q3, ?_⟩
        rcases q4 with q4 | ⟨f1, f2, f3, f4⟩ | ⟨f1, f2, f3, f4⟩
        · left; exact q4
        · right; left; exact ⟨f1, f2, m 58 (by simp) _ f3, f4⟩
        · right; right; exact ⟨f1, f2, m 25 (by simp) _ f3, f4⟩
      · right; left
        obtain ⟨q1, q2, q3, o, v, q4, q5, q6⟩ := hh
        exact ⟨kc_cl h q1 (by decide), q2, q3, o, v, by rw [kc_R h q1 (by decide) (by decide)]; exact q4, q5, huse v o q6⟩
      · right; right; left
        exact ⟨kc_cl h hh.1 (by decide), hh.2⟩
      · right; right; right; left
        obtain ⟨e1, e2, e3, e4, a1, W1, e5, e6, e7⟩ := hh
        exact ⟨kc_cl h e1 (by decide), by rw [kc_I' h (live_33 e1 e5) (by decide)]; exact e2, e3, by rw [kc_R' h (live_33 e1 e5) (by decide)]; exact e4, a1, W1, by rw [kc_R' h (live_33 e1 e5) (by decide)]; exact e5, hc _ _ _ _ _ e6, e7⟩
      · right; right; right; right; left
        obtain ⟨e1, e2, e3, e4, a1, a2, y, W1, W2, e5, e6, e7, e8, e9, e10, e11, e12, e13⟩ := hh
        exact ⟨kc_cl h e1 (by decide), by rw [kc_I' h (live_33 e1 e5) (by decide)]; exact e2, e3, e4, a1, a2, y, W1, W2, by rw [kc_R' h (live_33 e1 e5) (by decide)]; exact e5, by rw [kc_R' h (live_33 e1 e5) (by decide)]; exact e6, e7, e8, by rw [hQ y e10 72 (by simp)]; exact e9, e10, hT _ _ _ _ _ e10 e11, by rw [hQ y e10 71 (by simp)]; exact hc _ _ _ _ _ e12, e13⟩
      · right; right; right; right; right; left
        obtain ⟨e1, e2, e3, e4, a1, l, y, W1, W2, e5, e6, e7, e8, e9, e10, e11, e12, e13⟩ := hh
        refine ⟨kc_cl h e1 (by decide), e2, m 60 (by simp) _ e3, by rw [kc_I' h (live_31 e1 e5) (by decide)]; exact e4, a1, l, y, W1, W2, by rw [kc_R' h (live_31 e1 e5) (by decide)]; exact e5, ?_, e7, e8, by rw [hQ y e10 72 (by simp)]; exact e9, e10, hT _ _ _ _ _ e10 e11, by rw [hQ y e10 71 (by simp)]; exact hc _ _ _ _ _ e12, e13⟩
        rw [kc_R' h (live_31 e1 e5) (x := 3101) (by decide)]; exact e6
      · right; right; right; right; right; right; left
        obtain ⟨e1, e2, e3, e4, e5, e6, e7, e8, a1, L, l, y, W1, W2, f1, f2, f3, f4, f5, f6, f7, f8, f9, f10, f11, f12, f13⟩ := hh
        exact ⟨kc_cl h e1 (by decide), e2, e3, m 60 (by simp) _ e4, by rw [kc_I' h (live_30 e1 f1) (by decide)]; exact e5, by rw [kc_L' h (live_30 e1 f1) (by decide), t4.1 _ e4]; exact e6, e7, e8, a1, L, l, y, W1, W2, by rw [kc_R' h (live_30 e1 f1) (by decide)]; exact f1, by rw [kc_R' h (live_30 e1 f1) (by decide)]; exact f2, kc_cl h f3 (by decide), by rw [kc_Ls1 h f3 (nunr_30 e1 f1 f2)]; exact f4, f5, f6, f7, f8, by rw [hQ y f10 72 (by simp)]; exact f9, f10, hT _ _ _ _ _ f10 f11, by rw [hQ y f10 71 (by simp)]; exact hc _ _ _ _ _ f12, f13⟩
      · right; right; right; right; right; right; right; left
        obtain ⟨e1, e2, e7, e8, a1, L, l, y, W1, W2, f1, f2, f3, f4, f5, f6, f7, f8, f9, f10, f11, f12, f13⟩ := hh
        exact ⟨kc_cl h e1 (by decide), e2, e7, e8, a1, L, l, y, W1, W2, by rw [kc_R h e1 (by decide) (by decide)]; exact f1, by rw [kc_R h e1 (by decide) (by decide)]; exact f2, kc_cl h f3 (by decide), by rw [kc_Ls1 h f3 (nunr_32 e1 f2)]; exact f4, f5, f6, f7, f8, by rw [hQ y f10 72 (by simp)]; exact f9, f10, hT _ _ _ _ _ f10 f11, by rw [hQ y f10 71 (by simp)]; exact hc _ _ _ _ _ f12, f13⟩
      · right; right; right; right; right; right; right; right; left
        obtain ⟨e1, e2, e3, e4, e5, e6, e7, e8, e9⟩ := hh
        obtain ⟨w1, w2, w3, w4, w5⟩ := t2 _ e5
        rw [kc_R h e1 (by decide) (x := 2400) (by decide), kc_R h e1 (by decide) (x := 2401) (by decide), h.2.2.2.2.2.2.2.2 _ (by rw [hlen]; exact e5), ca_eq w3, w3, w1]
        refine ⟨kc_cl h e1 (by decide), e2, e3, e4, m 35 (by simp) _ e5, e6, e7, e8, ?_⟩
        rcases e9 with e9 | e9 | ⟨f1, f2, a1, W1, f3, f4, f5⟩
        · left; exact e9
        · right; left; exact e9
        · right; right; exact ⟨f1, f2, a1, W1, f3, hc _ _ _ _ _ f4, f5⟩
      · right; right; right; right; right; right; right; right; right; left
        obtain ⟨e1, e2, o, v, a1, a2, W1, f1, f2, f3, f4, f5, f6, f7, f8⟩ := hh
        exact ⟨kc_cl h e1 (by decide), e2, o, v, a1, a2, W1, by rw [kc_R h e1 (by decide) (by decide)]; exact f1, by rw [kc_R h f4.1 (by decide) (by decide)]; exact f2, f3, huse v o f4, by rw [kc_R h e1 (by decide) (by decide)]; exact f5, by rw [kc_R h e1 (by decide) (by decide)]; exact f6, hc _ _ _ _ _ f7, f8⟩
      · right; right; right; right; right; right; right; right; right; right; left
        obtain ⟨e1, e2, a1, a2, a3, W1, f1, f2, f3, f4, f5⟩ := hh
        exact ⟨kc_cl h e1 (by decide), e2, a1, a2, a3, W1, by rw [kc_R' h (live_20 e1 f1) (by decide)]; exact f1, by rw [kc_R' h (live_20 e1 f1) (by decide)]; exact f2, by rw [kc_R' h (live_20 e1 f1) (by decide)]; exact f3, hc _ _ _ _ _ f4, f5⟩
      · right; right; right; right; right; right; right; right; right; right; right; left
        obtain ⟨e1, e2, e3, e4, o, v, a1, a2, y, W1, W2, f1, f2, f3, f4, f5, f6, f7, f8, f9, f10, f11, f12⟩ := hh
        exact ⟨kc_cl h e1 (by decide), e2, e3, e4, o, v, a1, a2, y, W1, W2, by rw [kc_R h e1 (by decide) (by decide)]; exact f1, by rw [kc_R h f4.1 (by decide) (by decide)]; exact f2, f3, huse v o f4, by rw [kc_R h e1 (by decide) (by decide)]; exact f5, by rw [kc_R h e1 (by decide) (by decide)]; exact f6, f7, f8, f9, hT _ _ _ _ _ f9 f10, by rw [hQ y f9 71 (by simp)]; exact hc _ _ _ _ _ f11, f12⟩
      · right; right; right; right; right; right; right; right; right; right; right; right; left
        obtain ⟨e1, e2, L, l, W1, f1, f2, f3, f4, f5, f6⟩ := hh
        exact ⟨kc_cl h e1 (by decide), e2, L, l, W1, by rw [kc_R h e1 (by decide) (by decide)]; exact f1, kc_cl h f2 (by decide), by rw [kc_Ls0 h f2 (nunr_27 e1 f1)]; exact f3, f4, hc _ _ _ _ _ f5, f6⟩
      · right; right; right; right; right; right; right; right; right; right; right; right; right
        obtain ⟨e1, e2, e3, e4, e5, e6, e7⟩ := hh
        rw [kc_I h e1 (by decide) (x := 2901) (by decide), kc_I h e1 (by decide) (x := 2900) (by decide), t4.2 _ e5]
        refine ⟨kc_cl h e1 (by decide), e2, e3, e4, m 48 (by simp) _ e5, ⟨e6.1, kc_cl h e6.2.1 (by decide), (((h.2.2.2.2.2.2.2.1).2.1 _ _ (Or.inr e6.2.1) (nthV_lt _ _ _ e6.2.2)).2 (by rw [e6.2.2]; exact fun z => by cases z)).trans e6.2.2⟩, ?_⟩
        rcases e7 with e7 | ⟨a1, W1, f1, f2, f3⟩
        · left; exact e7
        · right; exact ⟨a1, W1, (h.2.2.2.2.2.1 2903 _ (by decide) (live_of e1 (by decide)) (fun _ => by rw [f1]; exact fun q => by cases q)).trans f1, hc _ _ _ _ _ f2, f3⟩
/-- bodies stay; nodes of the bodies that are made: those below N of units that are not open -/
theorem TR_wkH {Q : Nat → Prop} : ∀ g u H H' D D' a x W W', H ≤ H' → D ≤ D' → W ≤ W' → TR g Q r c s u H D a x W → TR g Q r c s u H' D' a x W' := by
  intro g
  induction g with
  | zero => intro u H H' D D' a x W W' _ _ _ h; exact h
  | succ g ih =>
    intro u H H' D D' a x W W' hH hD hW h
    have hT : ∀ H H' D D' b y W, H ≤ H' → D ≤ D' → TR g Q r c s u H D b y W → TR g Q r c s u H' D' b y W := fun H H' D D' b y W q1 q2 z => ih _ _ _ _ _ _ _ _ _ q1 q2 (Nat.le_refl _) z
    have hc : ∀ H H' D D' l p W, H ≤ H' → D ≤ D' → chn (fun b y W => Q y ∧ TR g Q r c s u H D b y W) s l p W → chn (fun b y W => Q y ∧ TR g Q r c s u H' D' b y W) s l p W := fun H H' D D' l p W q1 q2 q => chn_wk (fun a y W z => ⟨z.1, hT _ _ _ _ _ _ _ q1 q2 z.2⟩) q
    unfold TR at h ⊢
    rcases h with ⟨h1, L, b, h2, h3, h4, h5⟩ | ⟨n1, n2, n3, n4, n5, n6, h⟩
    · left; exact ⟨h1, L, b, h2, h3, h4, ih _ _ _ _ _ _ _ _ _ hH hD hW h5⟩
    · right
      refine ⟨n1, n2, n3, n4, by omega, by omega, ?_⟩
      rcases h with h | h | h | h | h | h | h | h | h | h | h | h | h | h
      · left; exact h
      · right; left; exact h
      · right; right; left; exact h
      · right; right; right; left
        obtain ⟨e1, e2, e3, e4, a1, W1, e5, e6, e7⟩ := h
        exact ⟨e1, e2, e3, e4, a1, W1, e5, hc _ _ _ _ _ _ _ hH hD e6, by omega⟩
      · right; right; right; right; left
        obtain ⟨e1, e2, e3, e4, a1, a2, y, W1, W2, e5, e6, e7, e8, e9, e10, e11, e12, e13⟩ := h
        exact ⟨e1, e2, e3, e4, a1, a2, y, W1, W2, e5, e6, e7, e8, e9, e10, hT _ _ _ _ _ _ _ hH hD e11, hc _ _ _ _ _ _ _ (by omega) hD e12, by omega⟩
      · right; right; right; right; right; left
        obtain ⟨e1, e2, e3, e4, a1, l, y, W1, W2, e5, e6, e7, e8, e9, e10, e11, e12, e13⟩ := h
        exact ⟨e1, e2, e3, e4, a1, l, y, W1, W2, e5, e6, e7, e8, e9, e10, hT _ _ _ _ _ _ _ hH hD e11, hc _ _ _ _ _ _ _ (by omega) hD e12, by omega⟩
      · right; right; right; right; right; right; left
        obtain ⟨e1, e2, e3, e4, e5, e6, e7, e8, a1, L, l, y, W1, W2, f1, f2, f3, f4, f5, f6, f7, f8, f9, f10, f11, f12, f13⟩ := h
        exact ⟨e1, e2, e3, e4, e5, e6, by omega, by omega, a1, L, l, y, W1, W2, f1, f2, f3, f4, f5, f6, f7, f8, f9, f10, hT _ _ _ _ _ _ _ hH hD f11, hc _ _ _ _ _ _ _ (by omega) hD f12, by omega⟩
      · right; right; right; right; right; right; right; left
        obtain ⟨e1, e2, e7, e8, a1, L, l, y, W1, W2, f1, f2, f3, f4, f5, f6, f7, f8, f9, f10, f11, f12, f13⟩ := h
        exact ⟨e1, e2, by omega, by omega, a1, L, l, y, W1, W2, f1, f2, f3, f4, f5, f6, f7, f8, f9, f10, hT _ _ _ _ _ _ _ hH hD f11, hc _ _ _ _ _ _ _ (by omega) hD f12, by omega⟩
      · right; right; right; right; right; right; right; right; left
        obtain ⟨e1, e2, e3, e4, e5, e6, e7, e8, e9⟩ := h
        refine ⟨e1, by omega, by omega, e4, e5, e6, e7, e8, ?_⟩
        rcases e9 with e9 | e9 | ⟨f1, f2, a1, W1, f3, f4, f5⟩
        · left; exact e9
        · right; left; exact e9
        · right; right; exact ⟨f1, f2, a1, W1, f3, hc _ _ _ _ _ _ _ hH hD f4, by omega⟩
      · right; right; right; right; right; right; right; right; right; left
        obtain ⟨e1, e2, o, v, a1, a2, W1, f1, f2, f3, f4, f5, f6, f7, f8⟩ := h
        exact ⟨e1, e2, o, v, a1, a2, W1, f1, f2, f3, f4, f5, f6, hc _ _ _ _ _ _ _ hH hD f7, by omega⟩
      · right; right; right; right; right; right; right; right; right; right; left
        obtain ⟨e1, e2, a1, a2, a3, W1, f1, f2, f3, f4, f5⟩ := h
        exact ⟨e1, e2, a1, a2, a3, W1, f1, f2, f3, hc _ _ _ _ _ _ _ hH hD f4, by omega⟩
      · right; right; right; right; right; right; right; right; right; right; right; left
        obtain ⟨e1, e2, e3, e4, o, v, a1, a2, y, W1, W2, f1, f2, f3, f4, f5, f6, f7, f8, f9, f10, f11, f12⟩ := h
        exact ⟨e1, e2, by omega, by omega, o, v, a1, a2, y, W1, W2, f1, f2, f3, f4, f5, f6, f7, f8, f9, hT _ _ _ _ _ _ _ hH (by omega) f10, hc _ _ _ _ _ _ _ hH hD f11, by omega⟩
      · right; right; right; right; right; right; right; right; right; right; right; right; left
        obtain ⟨e1, e2, L, l, W1, f1, f2, f3, f4, f5, f6⟩ := h
        exact ⟨e1, e2, L, l, W1, f1, f2, f3, f4, hc _ _ _ _ _ _ _ hH hD f5, by omega⟩
      · right; right; right; right; right; right; right; right; right; right; right; right; right
        obtain ⟨e1, e2, e3, e4, e5, e6, e7⟩ := h
        refine ⟨e1, e2, by omega, e4, e5, e6, ?_⟩
        rcases e7 with e7 | ⟨a1, W1, f1, f2, f3⟩
        · left; exact e7
        · right; exact ⟨a1, W1, f1, hc _ _ _ _ _ _ _ hH hD f2, by omega⟩
end
