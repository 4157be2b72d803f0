set_option maxRecDepth 100000
set_option maxHeartbeats 4000000
/-! D79: what a unit captures: the reference's side -/
theorem ts_A2 (h : tS) {x i y j : Nat} (m n : Int32) (hxy : ¬ (x = y ∧ i = j)) : tsA (tsA h x i m) y j n = tsA (tsA h y j n) x i m := by
  unfold tsA; simp only; congr; funext z c
  by_cases e1 : z = x ∧ c = i <;> by_cases e2 : z = y ∧ c = j
  · exact absurd ⟨e1.1.symm.trans e2.1, e1.2.symm.trans e2.2⟩ hxy
  · simp [e1, e2]; intro q w; exact absurd ⟨q, w⟩ hxy
  · simp [e1, e2]; intro q w; exact absurd ⟨q.symm, w.symm⟩ hxy
  · simp [e1, e2]
def hasB (s : tS) (u v : Nat) : Bool := (List.range (ca s 44 u)).any (fun i => decide (tA s 45 (16 * u + i) = Int32.ofNat v))
theorem hasB_t {s : tS} {u v : Nat} : hasB s u v = true ↔ ∃ i, i < ca s 44 u ∧ tA s 45 (16 * u + i) = Int32.ofNat v := by
  unfold hasB
  simp [List.any_eq_true]
def capT (s : tS) (u v : Nat) : tS := if hasB s u v = true then s else tsA (tsA s 45 (16 * u + ca s 44 u) (Int32.ofNat v)) 44 u (Int32.ofNat (ca s 44 u + 1))
theorem capT_th (s : tS) (u v : Nat) : TH [] [] [44, 45] [] s (capT s u v) := by
  unfold capT
  split
  · exact TH_refl _ _ _ _ s
  · exact TH_A (by simp) (TH_A (by simp) (TH_refl _ _ _ _ s))
theorem capT_44 (s : tS) {u v k : Nat} (hk : k ≠ u) : tA (capT s u v) 44 k = tA s 44 k := by
  unfold capT
  split
  · rfl
  · rw [t_A_A, if_neg (fun q => hk q.2), t_A_A, if_neg (fun q => by omega)]
theorem capT_45 (s : tS) {u v j : Nat} (hj : j ≠ 16 * u + ca s 44 u) : tA (capT s u v) 45 j = tA s 45 j := by
  unfold capT
  split
  · rfl
  · rw [t_A_A, if_neg (fun q => by omega), t_A_A, if_neg (fun q => hj q.2)]
theorem hasB_eq {s s' : tS} {u v : Nat} (h1 : ca s' 44 u = ca s 44 u) (h2 : ∀ i, i < ca s 44 u → tA s' 45 (16 * u + i) = tA s 45 (16 * u + i)) : hasB s' u v = hasB s u v := by
  have : (hasB s' u v = true) = (hasB s u v = true) := propext (by
    rw [hasB_t, hasB_t, h1]
    exact ⟨fun ⟨i, a, b⟩ => ⟨i, a, by rw [← h2 i a]; exact b⟩, fun ⟨i, a, b⟩ => ⟨i, a, by rw [h2 i a]; exact b⟩⟩)
  cases q : hasB s u v <;> cases w : hasB s' u v <;> simp_all
theorem capT_comm (s : tS) {a b v : Nat} (hab : a ≠ b) (ha : ca s 44 a ≤ 13) (hb : ca s 44 b ≤ 13) : capT (capT s a v) b v = capT (capT s b v) a v := by
  have key : ∀ a b, a ≠ b → ca s 44 a ≤ 13 → ca s 44 b ≤ 13 → ca (capT s a v) 44 b = ca s 44 b ∧ hasB (capT s a v) b v = hasB s b v := fun a b hab ha hb => by
    have h1 : ca (capT s a v) 44 b = ca s 44 b := ca_eq (capT_44 s (fun q => hab q.symm))
    exact ⟨h1, hasB_eq h1 (fun i hi => capT_45 s (by omega))⟩
  obtain ⟨k1, k2⟩ := key a b hab ha hb
  obtain ⟨k3, k4⟩ := key b a (fun q => hab q.symm) hb ha
  have e : ∀ x u, capT x u v = if hasB x u v = true then x else tsA (tsA x 45 (16 * u + ca x 44 u) (Int32.ofNat v)) 44 u (Int32.ofNat (ca x 44 u + 1)) := fun _ _ => rfl
  rw [e (capT s a v) b, e (capT s b v) a, k1, k2, k3, k4, e s a, e s b]
  by_cases qa : hasB s a v = true <;> by_cases qb : hasB s b v = true
  · simp [qa, qb]
  · simp [qa, qb]
  · simp [qa, qb]
  · simp only [qa, qb, if_false, Bool.false_eq_true]
    rw [ts_A2 (tsA s 45 (16 * a + ca s 44 a) (Int32.ofNat v)) (x := 44) (i := a) (y := 45) (j := 16 * b + ca s 44 b) _ _ (by omega), ts_A2 s (x := 45) (i := 16 * a + ca s 44 a) (y := 45) (j := 16 * b + ca s 44 b) _ _ (by omega),
      ts_A2 (tsA (tsA s 45 (16 * b + ca s 44 b) (Int32.ofNat v)) 45 (16 * a + ca s 44 a) (Int32.ofNat v)) (x := 44) (i := a) (y := 44) (j := b) _ _ (by omega), ts_A2 (tsA s 45 (16 * b + ca s 44 b) (Int32.ofNat v)) (x := 45) (i := 16 * a + ca s 44 a) (y := 44) (j := b) _ _ (by omega)]
/-- from within outwards -/
def capR : Nat → tS → Nat → Nat → tS
  | 0, s, _, _ => s
  | g + 1, s, u, v => if tA s 51 v = Int32.ofNat u then s else capR g (capT s u v) (ca s 40 u) v
/-- from outside in -/
def capA : Nat → tS → Nat → Nat → tS
  | 0, s, _, _ => s
  | g + 1, s, u, v => if tA s 51 v = Int32.ofNat u then s else capT (capA g s (ca s 40 u) v) u v
theorem capA_th : ∀ (g : Nat) (s : tS) (u v : Nat), TH [] [] [44, 45] [] s (capA g s u v) := by
  intro g
  induction g with
  | zero => intro s u v; exact TH_refl _ _ _ _ s
  | succ g ih =>
    intro s u v
    unfold capA
    split
    · exact TH_refl _ _ _ _ s
    · exact TH_trans (ih s _ v) (capT_th _ u v)
/-- outwards from a unit to a variable's own; few captures on the way -/
def chO : Nat → tS → Nat → Nat → Prop
  | 0, _, _, _ => False
  | g + 1, s, w, v => w < 60 ∧ (tA s 51 v = Int32.ofNat w ∨ (tA s 51 v ≠ Int32.ofNat w ∧ tA s 40 w = Int32.ofNat (ca s 40 w) ∧ ca s 40 w < w ∧ tA s 44 w = Int32.ofNat (ca s 44 w) ∧ ca s 44 w ≤ 13 ∧ chO g s (ca s 40 w) v))
theorem chO_T {v : Nat} : ∀ (g : Nat) (s : tS) (w u : Nat), w < u → chO g s w v → chO g (capT s u v) w v := by
  intro g
  induction g with
  | zero => intro s w u _ h; exact h
  | succ g ih =>
    intro s w u hw h
    unfold chO at h ⊢
    have e : tA (capT s u v) 40 w = tA s 40 w := th_A (capT_th s u v) (by decide) w
    have e4 := capT_44 s (u := u) (v := v) (k := w) (by omega)
    rw [th_A (capT_th s u v) (by decide), e, ca_eq e, e4, ca_eq e4]
    obtain ⟨h1, h | ⟨h0, h2, h3, h4, h5, h6⟩⟩ := h
    · exact ⟨h1, Or.inl h⟩
    · exact ⟨h1, Or.inr ⟨h0, h2, h3, h4, h5, ih s _ u (by omega) h6⟩⟩
theorem capR_T {v : Nat} : ∀ (g : Nat) (s : tS) (w u : Nat), w < u → ca s 44 u ≤ 13 → chO g s w v → capR g (capT s u v) w v = capT (capR g s w v) u v ∧ ca (capR g s w v) 44 u = ca s 44 u := by
  intro g
  induction g with
  | zero => intro s w u _ _ _; exact ⟨rfl, rfl⟩
  | succ g ih =>
    intro s w u hw hu hO
    unfold chO at hO
    unfold capR
    rw [th_A (capT_th s u v) (by decide)]
    obtain ⟨_, q | ⟨q, h2, h3, h4, h5, h6⟩⟩ := hO
    · rw [if_pos q, if_pos q]; exact ⟨rfl, rfl⟩
    · rw [if_neg q, if_neg q]
      have e : ca (capT s u v) 40 w = ca s 40 w := th_ca (capT_th s u v) (by decide) w
      have e3 : ca (capT s w v) 44 u = ca s 44 u := ca_eq (capT_44 s (by omega))
      rw [e, capT_comm s (by omega) hu h5]
      obtain ⟨i1, i2⟩ := ih (capT s w v) (ca s 40 w) u (by omega) (by omega) (chO_T g s _ w h3 h6)
      exact ⟨i1, i2.trans e3⟩
theorem capR_A {v : Nat} : ∀ (g : Nat) (s : tS) (w : Nat), chO g s w v → capR g s w v = capA g s w v := by
  intro g
  induction g with
  | zero => intro s w _; rfl
  | succ g ih =>
    intro s w hO
    unfold chO at hO
    unfold capR capA
    obtain ⟨_, q | ⟨q, h2, h3, h4, h5, h6⟩⟩ := hO
    · rw [if_pos q, if_pos q]
    · rw [if_neg q, if_neg q, (capR_T g s _ w h3 h5 h6).1, ih s _ h6]
/-! the reference's loops -/
theorem t_cap13 (d : Nat) {s : tS} {u v n : Nat} (hu : u < 60) (hv : v < 500) (h44 : tA s 44 u = Int32.ofNat n) (hn : n ≤ 13) (h40 : tA s 40 u = Int32.ofNat (ca s 40 u)) :
    ∀ m k, k + m = n → fX7_captures_13 (cT d) (Int32.ofNat v) (Int32.ofNat u) (bi ((List.range k).any (fun i => decide (tA s 45 (16 * u + i) = Int32.ofNat v)))) (Int32.ofNat k) s = fX7_captures_3 (cT d) (Int32.ofNat v) (Int32.ofNat (ca s 40 u)) (capT s u v) := by
  have c44 := ca_of h44 (by omega)
  have e16 : ∀ k, k ≤ 13 → (16 : Int32) * Int32.ofNat u + Int32.ofNat k = Int32.ofNat (16 * u + k) := fun k _ => by
    rw [show (16 : Int32) = Int32.ofNat 16 from rfl, z_mul, z_add]
  have e1 : Int32.ofNat n + 1 = Int32.ofNat (n + 1) := by rw [show (1 : Int32) = Int32.ofNat 1 from rfl, z_add]
  intro m
  induction m with
  | zero =>
    intro k hk
    have hkn : k = n := by omega
    subst hkn
    rw [uX7_captures_13, q_44 hu, h44, if_neg (by rw [z_lt (by omega) (by omega)]; omega)]
    have hB : hasB s u v = (List.range k).any (fun i => decide (tA s 45 (16 * u + i) = Int32.ofNat v)) := by unfold hasB; rw [c44]
    rw [← hB]
    unfold capT
    by_cases q : hasB s u v = true
    · rw [if_pos q, q, bi_t, if_neg (by decide), q_40 hu, h40]
    · rw [if_neg q]
      rw [Bool.not_eq_true] at q
      have w44 : tA (tsA s 45 (16 * u + k) (Int32.ofNat v)) 44 u = Int32.ofNat k := by rw [t_A_A, if_neg (fun z => by omega)]; exact h44
      have w40 : tA (tsA (tsA s 45 (16 * u + k) (Int32.ofNat v)) 44 u (Int32.ofNat (k + 1))) 40 u = Int32.ofNat (ca s 40 u) := by
        rw [t_A_A, if_neg (fun z => by omega), t_A_A, if_neg (fun z => by omega)]; exact h40
      rw [q, bi_f, if_pos rfl, q_44 hu, h44, e16 k hn, qs_45 (by omega), q_44 hu, w44, e1, qs_44 hu, q_40 hu, w40, c44]
  | succ m ih =>
    intro k hk
    have ek : Int32.ofNat k + 1 = Int32.ofNat (k + 1) := by rw [show (1 : Int32) = Int32.ofNat 1 from rfl, z_add]
    have hr : (List.range (k + 1)).any (fun i => decide (tA s 45 (16 * u + i) = Int32.ofNat v)) = ((List.range k).any (fun i => decide (tA s 45 (16 * u + i) = Int32.ofNat v)) || decide (tA s 45 (16 * u + k) = Int32.ofNat v)) := by
      rw [List.range_succ, List.any_append]; simp
    rw [uX7_captures_13, q_44 hu, h44, if_pos (by rw [z_lt (by omega) (by omega)]; omega), ek]
    have := ih (k + 1) (by omega)
    rw [hr] at this
    cases hb : (List.range k).any (fun i => decide (tA s 45 (16 * u + i) = Int32.ofNat v)) with
    | true =>
      rw [hb] at this
      rw [bi_t, if_neg (by decide)]
      rw [Bool.true_or, bi_t, ← ek] at this
      rw [← ek]; exact this
    | false =>
      rw [hb] at this
      rw [bi_f, if_pos rfl, e16 k (by omega), q_45 (by omega)]
      by_cases w : tA s 45 (16 * u + k) = Int32.ofNat v
      · rw [if_pos w]
        rw [Bool.false_or, decide_eq_true w, bi_t] at this
        exact this
      · rw [if_neg w]
        rw [Bool.false_or, decide_eq_false w, bi_f] at this
        exact this
theorem t_cap3 (d : Nat) {v : Nat} (hv : v < 500) : ∀ (g : Nat) (s : tS) (w : Nat), chO g s w v → fX7_captures_3 (cT d) (Int32.ofNat v) (Int32.ofNat w) s = some (.inl none, capR g s w v) := by
  intro g
  induction g with
  | zero => intro s w h; exact h.elim
  | succ g ih =>
    intro s w hO
    unfold chO at hO
    unfold capR
    obtain ⟨hw, q | ⟨q, h2, h3, h4, h5, h6⟩⟩ := hO
    · rw [uX7_captures_3, q_51 hv, q, if_pos rfl, if_pos rfl]
    · rw [uX7_captures_3, q_51 hv, if_neg (fun z => q z.symm), if_neg q]
      have := t_cap13 d hw hv h4 h5 h2 (ca s 44 w) 0 (by omega)
      rw [show (bi ((List.range 0).any fun i => decide (tA s 45 (16 * w + i) = Int32.ofNat v))) = 0 from rfl] at this
      rw [show (0 : Int32) = Int32.ofNat 0 from rfl] at this ⊢
      rw [this]
      exact ih (capT s w v) (ca s 40 w) (chO_T g s _ w h3 h6)
theorem t_captures (d : Nat) {v u g : Nat} {s : tS} (hv : v < 500) (h64 : tI s 64 = Int32.ofNat u) (hO : chO g s u v) : cT (d + 1) 66 [eR (.ref 0), eI (Int32.ofNat v)] s = some (.inl none, capA g s u v) := by
  rw [kX7_captures, uX7_captures, h64, t_cap3 d hv g s u hO, capR_A g s u hO]
