set_option maxRecDepth 100000
set_option maxHeartbeats 4000000
/-! D99: the unit at hand as it will be -/
theorem csR_back (c : cS) (x a : Nat) (v : Value) : csR (csR c x a v) x a (cR c x a) = c := by
  have e : (fun y b => if y = x ∧ b = a then cR c x a else (if y = x ∧ b = a then v else c.2.2.1 y b)) = c.2.2.1 := by
    funext y b
    by_cases h : y = x ∧ b = a
    · rw [if_pos h, h.1, h.2]; rfl
    · rw [if_neg h, if_neg h]
  show (c.1, c.2.1, (fun y b => if y = x ∧ b = a then cR c x a else (if y = x ∧ b = a then v else c.2.2.1 y b)), c.2.2.2) = c
  rw [e]
theorem csR_self (c : cS) (x a : Nat) : csR c x a (cR c x a) = c := by
  have e : (fun y b => if y = x ∧ b = a then cR c x a else c.2.2.1 y b) = c.2.2.1 := by
    funext y b
    by_cases h : y = x ∧ b = a
    · rw [if_pos h, h.1, h.2]; rfl
    · rw [if_neg h]
  show (c.1, c.2.1, (fun y b => if y = x ∧ b = a then cR c x a else c.2.2.1 y b), c.2.2.2) = c
  rw [e]
theorem csR_RR (c : cS) {x x' : Nat} (a a' : Nat) (v v' : Value) (hx : x ≠ x') : csR (csR c x a v) x' a' v' = csR (csR c x' a' v') x a v := by
  have e : (fun y b => if y = x' ∧ b = a' then v' else (if y = x ∧ b = a then v else c.2.2.1 y b)) = (fun y b => if y = x ∧ b = a then v else (if y = x' ∧ b = a' then v' else c.2.2.1 y b)) := by
    funext y b
    by_cases h : y = x' ∧ b = a'
    · rw [if_pos h, if_neg (fun q => hx (q.1.symm.trans h.1)), if_pos h]
    · rw [if_neg h]
      by_cases h2 : y = x ∧ b = a
      · rw [if_pos h2, if_pos h2]
      · rw [if_neg h2, if_neg h2, if_neg h]
  show (c.1, c.2.1, (fun y b => if y = x' ∧ b = a' then v' else (if y = x ∧ b = a then v else c.2.2.1 y b)), c.2.2.2) = (c.1, c.2.1, (fun y b => if y = x ∧ b = a then v else (if y = x' ∧ b = a' then v' else c.2.2.1 y b)), c.2.2.2)
  rw [e]
theorem tsI_back (s : tS) (x : Nat) (v : Int32) : tsI (tsI s x v) x (tI s x) = s := by
  have e : (fun y => if y = x then tI s x else (if y = x then v else s.1 y)) = s.1 := by
    funext y
    by_cases h : y = x
    · rw [if_pos h, h]; rfl
    · rw [if_neg h, if_neg h]
  show ((fun y => if y = x then tI s x else (if y = x then v else s.1 y)), s.2) = s
  rw [e]
theorem tsI_same (s : tS) (x : Nat) (v w : Int32) : tsI (tsI s x v) x w = tsI s x w := by
  have e : (fun y => if y = x then w else (if y = x then v else s.1 y)) = (fun y => if y = x then w else s.1 y) := by
    funext y
    by_cases h : y = x
    · rw [if_pos h, if_pos h]
    · rw [if_neg h, if_neg h, if_neg h]
  show ((fun y => if y = x then w else (if y = x then v else s.1 y)), s.2) = ((fun y => if y = x then w else s.1 y), s.2)
  rw [e]
theorem tsI_II (s : tS) {x x' : Nat} (v v' : Int32) (hx : x ≠ x') : tsI (tsI s x v) x' v' = tsI (tsI s x' v') x v := by
  have e : (fun y => if y = x' then v' else (if y = x then v else s.1 y)) = (fun y => if y = x then v else (if y = x' then v' else s.1 y)) := by
    funext y
    by_cases h : y = x'
    · rw [if_pos h, if_neg (fun q => hx (q.symm.trans h)), if_pos h]
    · rw [if_neg h]
      by_cases h2 : y = x
      · rw [if_pos h2, if_pos h2]
      · rw [if_neg h2, if_neg h2, if_neg h]
  show ((fun y => if y = x' then v' else (if y = x then v else s.1 y)), s.2) = ((fun y => if y = x then v else (if y = x' then v' else s.1 y)), s.2)
  rw [e]
theorem tsA_AA (s : tS) {x x' : Nat} (k k' : Nat) (v v' : Int32) (hx : x ≠ x') : tsA (tsA s x k v) x' k' v' = tsA (tsA s x' k' v') x k v := by
  have e : (fun y j => if y = x' ∧ j = k' then v' else (if y = x ∧ j = k then v else s.2.2.1 y j)) = (fun y j => if y = x ∧ j = k then v else (if y = x' ∧ j = k' then v' else s.2.2.1 y j)) := by
    funext y j
    by_cases h : y = x' ∧ j = k'
    · rw [if_pos h, if_neg (fun q => hx (q.1.symm.trans h.1)), if_pos h]
    · rw [if_neg h]
      by_cases h2 : y = x ∧ j = k
      · rw [if_pos h2, if_pos h2]
      · rw [if_neg h2, if_neg h2, if_neg h]
  show (s.1, s.2.1, (fun y j => if y = x' ∧ j = k' then v' else (if y = x ∧ j = k then v else s.2.2.1 y j)), s.2.2.2) = (s.1, s.2.1, (fun y j => if y = x ∧ j = k then v else (if y = x' ∧ j = k' then v' else s.2.2.1 y j)), s.2.2.2)
  rw [e]
section
variable {χ : Nat → Int32} {n w t m ks st p f : Nat} {c : cS} {s : tS}
/-- over a word, the reference's other counters aside -/
theorem J_nextO (d e : Nat) (h : LXb χ n w t m ks st p c s) {q : tS} (h6 : tI q 6 = 0) (h60 : tI s 6 = 0) (hI : ∀ x, x ∈ [4, 8, 9, 10, 11, 14, 15, 16] → tI q x = tI s x) (h3 : ∀ k, tA q 3 k = tA s 3 k) :
    lxBad (cC (d + 20) 1001 [eR (.ref w)] c) (cT (e + 20) 6 [eR (.ref 0)] q) c ∨ ∃ c' z p' f', cC (d + 20) 1001 [eR (.ref w)] c = some (.inl none, c') ∧ cT (e + 20) 6 [eR (.ref 0)] q = some (.inl none, z) ∧ ov z q = z ∧ lxOk χ n w t m ks st p c s c' (ov z s) p' f' := by
  obtain ⟨a1, a2, a3, a4, a5, ⟨a6, a7, a8⟩, a9, a10, a11⟩ := h
  have hL : LXb χ n w t m ks st p c q := ⟨a1, ⟨(hI 4 (by simp)).trans a2.1, a2.2.1, fun k hk => (h3 k).trans (a2.2.2.1 k hk), a2.2.2.2⟩, a3, a4, a5, ⟨a6, a7, (hI 16 (by simp)).trans a8⟩, a9, a10, (hI 10 (by simp)).trans a11⟩
  rcases J_next d e hL h6 with hb | ⟨c', z, p', f', h1, h2, h3'⟩
  · left; exact hb
  · right
    obtain ⟨⟨⟨b1, ⟨b2, b2a, b2b, b2c⟩, b3, b4, b5, ⟨b6, b7, b8⟩, b9, b10, b11⟩, g1, g2, g3, g4, g5⟩, j1, j2, j3, j4, j5, j6⟩ := h3'
    have hz := ov_self j5
    refine ⟨c', z, p', f', h1, h2, hz, ⟨⟨⟨b1, ⟨?_, b2a, fun k hk => a2.2.2.1 k hk, b2c⟩, b3, b4, b5, ⟨b6, b7, ?_⟩, b9, b10, ?_⟩, g1, g2, ?_, ?_, ?_⟩, j1, ?_, ?_, j4, LFt_ov z s, ?_⟩⟩
    · rw [ov_tI z s (by decide)]; exact a2.1
    · rw [ov_tI z s (by decide)]; exact a8
    · rw [ov_tIz z s (by decide)]; exact b11
    · rw [ov_tIz z s (by decide)]; exact g3
    · rw [ov_tIz z s (by decide)]; exact g4
    · have e8 : tI (ov z s) 8 = tI z 8 := ov_tIz z s (by decide)
      have e11 : tI (ov z s) 11 = tI z 11 := ov_tIz z s (by decide)
      have e14 : tI (ov z s) 14 = tI z 14 := ov_tIz z s (by decide)
      have e15 : tI (ov z s) 15 = tI z 15 := ov_tIz z s (by decide)
      have e12 : tL (ov z s) 12 = tL z 12 := show (if (12 : Nat) = 12 then z.2.1 12 else s.2.1 12) = _ from if_pos rfl
      have e13 : ∀ i, tB (ov z s) 13 i = tB z 13 i := fun i => show (if (13 : Nat) = 13 then z.2.2.2 13 i else s.2.2.2 13 i) = _ from if_pos rfl
      unfold LW at g5 ⊢
      simp only [e8, e11, e14, e15, e12, e13]
      exact g5
    · rw [ov_tI z s (by decide)]; exact h60
    · rw [ov_tI z s (by decide)]
    · rw [ov_tIz z s (by decide)]; exact j6
theorem J_signO (d e : Nat) (k : Int32) (h : LX χ n w t m ks st p f c s) {q : tS} (h6 : tI q 6 = 0) (h60 : tI s 6 = 0) (hI : ∀ x, x ∈ [4, 8, 9, 10, 11, 14, 15, 16] → tI q x = tI s x) (h3 : ∀ k, tA q 3 k = tA s 3 k) (hxy : (cI c 1004 w = 5 ∧ cI c 1006 w = k) = (tI s 8 = 5 ∧ tI s 11 = k)) :
    lxBad (cC (d + 22) 1012 [eR (.ref w), eI k] c) (cT (e + 21) 26 [eR (.ref 0), eI k] q) c ∨ (tI s 8 = 5 ∧ tI s 11 = k) ∧ ∃ c' z p' f', cC (d + 22) 1012 [eR (.ref w), eI k] c = some (.inl none, c') ∧ cT (e + 21) 26 [eR (.ref 0), eI k] q = some (.inl none, z) ∧ ov z q = z ∧ lxOk χ n w t m ks st p c s c' (ov z s) p' f' := by
  have hw := h.1.1.1
  have hl := h.1.2.2.2.2.1.1
  rw [c_signE (d + 7) k hw hl, t_signE (e + 17)]
  simp only [hxy, h6, hI 8 (by simp), hI 11 (by simp), true_and, if_true]
  by_cases wq : tI s 8 = 5 ∧ tI s 11 = k
  · rw [if_pos wq, if_pos wq]
    rcases J_nextO d e h.1 h6 h60 hI h3 with hb | ⟨c', z, p', f', h1, h2, h3, h4⟩
    · left
      exact lxBad_V hb
    · right
      exact ⟨wq, c', z, p', f', bV_id h1, bV_id h2, h3, h4⟩
  · rw [if_neg wq, if_neg wq]
    left
    obtain ⟨y1, _, y3, _, _⟩ := lx_mis h h60 1 (by decide)
    have hj : tI s 9 = Int32.ofNat f := h.2.2.2.1
    refine ⟨_, _, _, _, _, rfl, rfl, y1, (fH_6 h6).1, ?_, by decide, by rw [(wH_nx _ _ _).1]; omega, by rw [(wH_nx _ _ _).2]; omega⟩
    rw [(fH_6 h6).2, hI 4 (by simp), hI 9 (by simp)]
    by_cases w8 : tI s 8 = 0
    · rw [if_pos w8] at y3 ⊢
      rw [(fH_6 h60).2] at y3; exact y3
    · rw [if_neg w8]; exact hj
/-- what the reference's `next` leaves alone, behind a fault as well -/
theorem J_next_fr (e : Nat) (h : LX χ n w t m ks st p f c s) (hfi : tI s 6 = 0) {s' : tS} (h1 : cT (e + 20) 6 [eR (.ref 0)] s = some (.inl none, s')) : TH [6, 7, 8, 9, 10, 11, 14, 15] [12] [] [13] s s' := by
  obtain ⟨hW, hX, hK, _, _, ⟨m1, m2, m3⟩, ⟨p1, p2, p3⟩⟩ := h.1
  exact t_next_fr e hX (fun k hk => by
    rw [← hW.2.2.2.2.2.2.1 k hk]
    exact and255 _) m1 m3 hfi p1 p3 h1
/-- what a step over a word costs -/
theorem LXR {c' : cS} {s' : tS} {p' f' : Nat} (hL : LX χ n w t m ks st p f c s) (hk : lxOk χ n w t m ks st p c s c' s' p' f') : f ≤ f' ∧ p ≤ f' ∧ f' ≤ p' ∧ p' ≤ n ∧ cNx c' + 300 * (n - f') ≤ cNx c + 300 * (n - f) ∧ cSl c' + 2000 * (n - f') ≤ cSl c + 2000 * (n - f) ∧ cSl c ≤ cSl c' ∧ (tI s 8 ≠ 0 → f < f' ∧ cNx c' + 300 * (n - f') + 298 ≤ cNx c + 300 * (n - f) ∧ cSl c' + 2000 * (n - f') + 1992 ≤ cSl c + 2000 * (n - f)) := by
  obtain ⟨hL', hpf, hfi', h7, hlf, hlt, hend⟩ := hk
  have hp := hL.1.2.2.2.2.2.2.1
  have hp' := hL'.1.2.2.2.2.2.2.1
  have hf := hL.2.1
  have hf' := hL'.2.1
  have hw := hL.2.2.2.2.2
  have w1 := hlf.2.1
  have w2 := hlf.2.2.2.1
  refine ⟨by omega, hpf, hf', hp', ?_, ?_, hlf.2.2.1, fun q => ?_⟩
  · by_cases q : tI s 8 = 0
    · have := lw_0 hw q
      by_cases q' : tI s' 8 = 0
      · have := (hend q').1; omega
      · have := lw_lt hL'.2.2.2.2.2 q'; omega
    · have := lw_lt hw q; omega
  · by_cases q : tI s 8 = 0
    · have := lw_0 hw q
      by_cases q' : tI s' 8 = 0
      · have := (hend q').2; omega
      · have := lw_lt hL'.2.2.2.2.2 q'; omega
    · have := lw_lt hw q; omega
  · have := lw_lt hw q
    omega
end
section
variable {c c' : cS} {s s' : tS} {r : Nat} {v : Value}
theorem CH_V (c : cS) (r : Nat) (v : Value) : CH [] [] [803] [] (csR c 803 r v) c := by
  have h := CH_R (XI := []) (XL := []) (XR := [803]) (XC := []) (x := 803) (a := r) (v := cR c 803 r) (Or.inl (by simp)) (CH_refl [] [] [803] [] (csR c 803 r v))
  rw [csR_back] at h
  exact h
theorem CLN_V (hr : cCl c r = 8) (h : CLN (csR c 803 r v)) : CLN c := by
  have := CLN_R (x := 803) (a := r) (n := cR c 803 r) (h := csR c 803 r v) hr h
  rw [csR_back] at this
  exact this
theorem LX_V {χ : Nat → Int32} {n w t m ks st p f : Nat} (h : LX χ n w t m ks st p f (csR c 803 r v) s) : LX χ n w t m ks st p f c s :=
  LX_ch (CH_V c r v) (TH_refl [] [] [] [] s) rfl rfl (by decide) h
theorem LX_toV {χ : Nat → Int32} {n w t m ks st p f : Nat} (h : LX χ n w t m ks st p f c s) : LX χ n w t m ks st p f (csR c 803 r v) s :=
  LX_ch (XI := []) (XL := []) (XR := [803]) (XC := []) (CH_R (Or.inl (by simp)) (CH_refl _ _ _ _ c)) (TH_refl [] [] [] [] s) rfl rfl (by decide) h
theorem LFc_V {st : Nat} (h : LFc st c c') : LFc st (csR c 803 r v) (csR c' 803 r v) := by
  obtain ⟨h1, h2, h3, h4, h5, h6, h7, h8, h9, h10, h11, h12, h13, h14, h15⟩ := h
  refine ⟨h1, h2, h3, h4, h5, h6, h7, fun y a q1 q2 => ?_, fun a q => ?_, h10, h11, h12, h13, h14, h15⟩
  · rw [g_R_R, g_R_R, h8 y a q1 q2]
  · rw [g_R_R, g_R_R, h9 a q]
theorem lxOk_V {χ : Nat → Int32} {n w t m ks st p p' f' : Nat} (h : lxOk χ n w t m ks st p c s c' s' p' f') : lxOk χ n w t m ks st p (csR c 803 r v) s (csR c' 803 r v) s' p' f' := by
  obtain ⟨h1, h2, h3, h4, h5, h6, h7⟩ := h
  exact ⟨LX_toV h1, h2, h3, h4, LFc_V h5, h6, h7⟩
variable {χ : Nat → Int32} {n t p f : Nat} {vo : Nat → Nat} {Op Oa Ou : Nat → Prop} {E O : Nat}
theorem RP_Vcl (h : RP χ n t r p f vo Op Oa Ou E O (csR c 803 r v) s) : cCl c r = 8 := h.2.2.2.1.1.1
theorem V_803 {st : Nat} (hr : cCl c r = 8) (hn : CLN c) (h : LFc st c c') : cCl c' r = 8 ∧ cR c' 803 r = cR c 803 r :=
  ⟨(h.2.2.2.2.2.2.2.2.2.2.2.2.2.1 r (Nat.lt_of_not_le (fun q => by have := (hn r q).1; rw [hr] at this; cases this))).2.1.trans hr, h.2.2.2.2.2.2.2.1 803 r (by decide) (by decide)⟩
theorem P_nextV (d e : Nat) (h : RP χ n t r p f vo Op Oa Ou E O (csR c 803 r v) s) {q : tS} (h6 : tI q 6 = 0) (hI : ∀ x, x ∈ [4, 8, 9, 10, 11, 14, 15, 16] → tI q x = tI s x) (h3 : ∀ k, tA q 3 k = tA s 3 k) :
    lxBad (cC (d + 20) 1001 [eR (.ref (r + 16))] c) (cT (e + 20) 6 [eR (.ref 0)] q) c ∨ ∃ c' z p' f', cC (d + 20) 1001 [eR (.ref (r + 16))] c = some (.inl none, c') ∧ cT (e + 20) 6 [eR (.ref 0)] q = some (.inl none, z) ∧ ov z q = z ∧ WK χ n t r p vo Op Oa Ou E O (csR c 803 r v) s (csR c' 803 r v) (ov z s) p' f' ∧ cR c' 803 r = cR c 803 r := by
  have hr := RP_Vcl h
  have hn := CLN_V hr h.2.2.1
  rcases J_nextO d e (LX_V h.1).1 h6 h.2.1 hI h3 with hb | ⟨c', z, p', f', h1, h2, hz, h3⟩
  · left; exact hb
  · right
    have hcl := cC_cln h1 hn
    obtain ⟨w1, w2⟩ := V_803 hr hn h3.2.2.2.2.1
    exact ⟨c', z, p', f', h1, h2, hz, WK_of h (CLN_R (by rw [w1]) hcl) (lxOk_V h3), w2⟩
theorem P_signV (d e : Nat) (k : Int32) (h : RP χ n t r p f vo Op Oa Ou E O (csR c 803 r v) s) {q : tS} (h6 : tI q 6 = 0) (hI : ∀ x, x ∈ [4, 8, 9, 10, 11, 14, 15, 16] → tI q x = tI s x) (h3 : ∀ k, tA q 3 k = tA s 3 k) (hxy : (cI c 1004 (r + 16) = 5 ∧ cI c 1006 (r + 16) = k) = (tI s 8 = 5 ∧ tI s 11 = k)) :
    lxBad (cC (d + 22) 1012 [eR (.ref (r + 16)), eI k] c) (cT (e + 21) 26 [eR (.ref 0), eI k] q) c ∨ (tI s 8 = 5 ∧ tI s 11 = k) ∧ ∃ c' z p' f', cC (d + 22) 1012 [eR (.ref (r + 16)), eI k] c = some (.inl none, c') ∧ cT (e + 21) 26 [eR (.ref 0), eI k] q = some (.inl none, z) ∧ ov z q = z ∧ WK χ n t r p vo Op Oa Ou E O (csR c 803 r v) s (csR c' 803 r v) (ov z s) p' f' ∧ cR c' 803 r = cR c 803 r := by
  have hr := RP_Vcl h
  have hn := CLN_V hr h.2.2.1
  rcases J_signO d e k (LX_V h.1) h6 h.2.1 hI h3 hxy with hb | ⟨hq, c', z, p', f', h1, h2, hz, h3⟩
  · left; exact hb
  · right
    have hcl := cC_cln h1 hn
    obtain ⟨w1, w2⟩ := V_803 hr hn h3.2.2.2.2.1
    exact ⟨hq, c', z, p', f', h1, h2, hz, WK_of h (CLN_R (by rw [w1]) hcl) (lxOk_V h3), w2⟩
/-- the reference's state and the one that is meant: the unit at hand and the methods of a module aside -/
def VQ (q s : tS) : Prop := TH [64] [] [30, 31] [] q s
theorem VQ_lex {q : tS} (h : VQ q s) : (∀ x, x ∈ [4, 8, 9, 10, 11, 14, 15, 16] → tI q x = tI s x) ∧ (∀ k, tA q 3 k = tA s 3 k) :=
  ⟨fun x hx => (th_I h (by simp only [List.mem_cons, List.not_mem_nil, or_false] at hx ⊢; omega)).symm, fun k => (th_A h (by decide) k).symm⟩
theorem VQ_ov {q z : tS} (h : VQ q s) (hz : ov z q = z) : VQ z (ov z s) := by
  obtain ⟨h1, h2, h3, h4⟩ := h
  refine ⟨fun x hx => ?_, fun x hx => ?_, fun x j hx => ?_, fun x j hx => ?_⟩
  · by_cases w : x ∈ lexI
    · rw [ov_tIz z s w]
    · rw [ov_tI z s w, h1 x hx]
      have e := ov_tI z q w
      rw [hz] at e; exact e.symm
  · have e : tL (ov z q) x = tL z x := by rw [hz]
    show (if x = 12 then z.2.1 x else s.2.1 x) = z.2.1 x
    have e' : (if x = 12 then z.2.1 x else q.2.1 x) = z.2.1 x := e
    by_cases w : x = 12
    · rw [if_pos w]
    · rw [if_neg w] at e' ⊢
      exact (h2 x hx).trans e'
  · have e : tA (ov z q) x j = tA z x j := by rw [hz]
    rw [ov_tA] at e ⊢
    rw [← e]; exact h3 x j hx
  · have e : tB (ov z q) x j = tB z x j := by rw [hz]
    show (if x = 13 then z.2.2.2 x j else s.2.2.2 x j) = z.2.2.2 x j
    have e' : (if x = 13 then z.2.2.2 x j else q.2.2.2 x j) = z.2.2.2 x j := e
    by_cases w : x = 13
    · rw [if_pos w]
    · rw [if_neg w] at e' ⊢
      exact (h4 x j hx).trans e'
theorem VQ_eq {q : tS} {v : Int32} (h : VQ q s) (h64 : tI s 64 = v) (h30 : ∀ j, tA s 30 j = tA q 30 j) (h31 : ∀ j, tA s 31 j = tA q 31 j) : tsI q 64 v = s := by
  obtain ⟨h1, h2, h3, h4⟩ := h
  refine Prod.ext (funext fun x => ?_) (Prod.ext (funext fun x => ?_) (Prod.ext (funext fun x => funext fun j => ?_) (funext fun x => funext fun j => ?_)))
  · show (if x = 64 then v else q.1 x) = s.1 x
    by_cases w : x = 64
    · rw [if_pos w, w]; exact h64.symm
    · rw [if_neg w]; exact (h1 x (by simpa using w)).symm
  · exact (h2 x (by simp)).symm
  · show tA q x j = tA s x j
    by_cases w : x = 30
    · rw [w]; exact (h30 j).symm
    · by_cases w' : x = 31
      · rw [w']; exact (h31 j).symm
      · exact (h3 x j (by simp only [List.mem_cons, List.not_mem_nil, or_false]; omega)).symm
  · exact (h4 x j (by simp)).symm
theorem VQ_64 (s : tS) (u : Int32) : VQ s (tsI s 64 u) := TH_I (by simp) (TH_refl _ _ _ _ s)
theorem ov_TH {q z : tS} (hz : ov z q = z) : TH [8, 9, 10, 11, 14, 15] [12] [] [13] q z := by
  have h := TH_of_LF (LFt_ov z q)
  rw [hz] at h; exact h
theorem LX_Q {χ : Nat → Int32} {n w t m ks st p f : Nat} {q : tS} (h : VQ q s) (hL : LX χ n w t m ks st p f c s) : LX χ n w t m ks st p f c q :=
  LX_ch (CH_refl [] [] [] [] c) (th_sym h) rfl rfl (by decide) hL
/-- a list that grew or shrank, where another field was written -/
theorem LA_V {a : Nat} {l : List Value} (h : LA c a l c') : LA (csR c 803 r v) a l (csR c' 803 r v) := by
  obtain ⟨h1, ⟨i1, i2, i3, i4, i5, i6, i7⟩, h3, h4⟩ := h
  refine ⟨h1, ⟨i1, i2, ?_, i4, i5, i6, i7⟩, h3, h4⟩
  have i3' : c'.2.2.1 = c.2.2.1 := i3
  show (fun y b => if y = 803 ∧ b = r then v else c'.2.2.1 y b) = (fun y b => if y = 803 ∧ b = r then v else c.2.2.1 y b)
  rw [i3']
theorem LA_R {a y b : Nat} {w : Value} {l : List Value} (h : LA c a l c') : LA (csR c y b w) a l (csR c' y b w) := by
  obtain ⟨h1, ⟨i1, i2, i3, i4, i5, i6, i7⟩, h3, h4⟩ := h
  refine ⟨h1, ⟨i1, i2, ?_, i4, i5, i6, i7⟩, h3, h4⟩
  have i3' : c'.2.2.1 = c.2.2.1 := i3
  show (fun z q => if z = y ∧ q = b then w else c'.2.2.1 z q) = (fun z q => if z = y ∧ q = b then w else c.2.2.1 z q)
  rw [i3']
theorem LA_I {a y b : Nat} {w : Int32} {l : List Value} (h : LA c a l c') : LA (csI c y b w) a l (csI c' y b w) := by
  obtain ⟨h1, ⟨i1, i2, i3, i4, i5, i6, i7⟩, h3, h4⟩ := h
  refine ⟨h1, ⟨?_, i2, i3, i4, i5, i6, i7⟩, h3, h4⟩
  have i1' : c'.1 = c.1 := i1
  show (fun z q => if z = y ∧ q = b then w else c'.1 z q) = (fun z q => if z = y ∧ q = b then w else c.1 z q)
  rw [i1']
theorem P_showL {k : Nat} (h : RP χ n t r p f vo Op Oa Ou E O c s) (h12 : cnt s 56 < 12) (hv : k < cnt s 50) (hanc : anc s 60 (cnt s 64) (ca s 51 k)) (hnm : nm (cL c 1700 (vo k)) (tB s 52 k)) (hLA : LA c (r + 15) (cLs c (r + 15) ++ [.ref (vo k)]) c') (hn' : CLN c') :
    RP χ n t r p f vo Op Oa Ou E O c' (shT s k) ∧ KC r c c' ∧ KT s (shT s k) ∧ cnt (shT s k) 56 = cnt s 56 + 1 ∧ cSl c' ≤ cSl c + 40 ∧ CH [] [] [] [5805] c c' := by
  obtain ⟨hL, hfi, hn, hQ, hN, hOu, hOp, hOa, hOu2⟩ := h
  obtain ⟨hS, hC, hG, hLm, hM, hU, hV, hI, hF, hA, hB⟩ := hQ
  have hvL := RSt_vL hS
  have hI0 := hI
  obtain ⟨i1, i2, ⟨i3, i4, i5⟩, i6⟩ := hI
  have hch := LA_ch hLA hvL
  have hth : TH [56] [] [57] [] s (shT s k) := TH_I (by simp) (TH_A (by simp) (TH_refl _ _ _ _ s))
  have e56 : tI (shT s k) 56 = Int32.ofNat (cnt s 56 + 1) := (cnt_up i3 (by decide)).2
  have c56 := cnt_of e56 (by omega)
  have e57 : tA (shT s k) 57 (cnt s 56) = Int32.ofNat k := by
    show tA (tsA s 57 (cnt s 56) (Int32.ofNat k)) 57 (cnt s 56) = _
    rw [t_A_A, if_pos ⟨rfl, rfl⟩]
  have o57 : ∀ i, i ≠ cnt s 56 → tA (shT s k) 57 i = tA s 57 i := fun i hi => by
    show tA (tsA s 57 (cnt s 56) (Int32.ofNat k)) 57 i = _
    rw [t_A_A, if_neg (fun q => hi q.2)]
  have h500 := hV.1.2
  have hsl : cSl c' ≤ cSl c + 40 := by have := hLA.1.2.2.2; rw [i4] at this; omega
  have hKC : KC r c c' := KC_of hch hS hLA.1.2.2.1 (by decide)
  have hKT : KT s (shT s k) := KT_of hth (by decide)
  obtain ⟨w1, w2, q, y1, y2, y3, y4, y5, y6, y7, y8, y9⟩ := RI_fr hch hth hS hV (by decide) hI0
  have hCP : CPr (shT s k) q := by
    intro k' hk ha i hi
    rw [th_cnt hth (by decide)] at hk
    rw [anc_fr hth (by decide), th_cnt hth (by decide)] at ha
    rw [th_ca hth (by decide)] at hi
    rw [y9, c56, th_ca hth (x := 45) (by decide)]
    rcases y8 k' hk ha i hi with ⟨j, j1, j2⟩ | w
    · exact Or.inl ⟨j, by omega, by rw [ca_eq (o57 j (by omega))]; exact j2⟩
    · exact Or.inr w
  refine ⟨⟨LX_ch hch hth (by rw [hLA.2.1.2.2.2.1]) (by rw [hLA.2.1.2.2.2.2.1]) (by decide) hL, hfi, hn', ⟨RSt_fr hch (by decide) hS, RCt_fr hch hth hS (by decide) hC, RGt_fr hch hth hS (by decide) hG, RLt_fr hch hth hS (by decide) hLm, RMt_fr hch hth hS (by decide) (by decide) hM, RUt_fr hch hth hS (by decide) (by decide) hU, RVt_fr hch hth hS hU (by decide) hV, ⟨w1.1, w1.2, ⟨cok_of e56 (by omega) (by omega), ?_, fun i hi => ?_⟩, q, y1, y2, y3, y4, y5, y6, y7, hCP⟩, RFt_fr hch hth hS hU (by decide) hF, RAt_fr hch hth hS (by decide) hA, ?_⟩, RNt_fr hth (by decide) hN, hOu, hOp, hOa, hOu2⟩, hKC, hKT, c56, hsl, hch⟩
  · rw [hLA.2.2.1, c56, List.length_append, i4]; rfl
  · rw [c56] at hi
    rw [hLA.2.2.1]
    by_cases q : i = cnt s 56
    · have hca : ca (shT s k) 57 i = k := by rw [q]; exact ca_of e57 (by omega)
      rw [hca]
      refine ⟨by rw [q]; exact aok_of e57 (by omega) (by omega), by rw [th_cnt hth (by decide)]; exact hv, ?_, (w2 k hv ⟨hnm, hanc⟩).1, (w2 k hv ⟨hnm, hanc⟩).2⟩
      rw [q, ← i4, lst_end]
    · obtain ⟨g1, g2, g3, g4, g5⟩ := i5 i (by omega)
      rw [aok_eq (o57 i q), ca_eq (o57 i q)]
      refine ⟨g1, by rw [th_cnt hth (by decide)]; exact g2, ?_, (w2 _ g2 ⟨g4, g5⟩).1, (w2 _ g2 ⟨g4, g5⟩).2⟩
      rw [lst_lt _ _ _ (by rw [i4]; omega)]; exact g3
  · exact RBt_mono hKC hKT hU.2.1.1 (fun v hv => (hV.2.1 v hv).2.2.1) (th_cnt hth (by decide)) (by rw [th_cnt hth (by decide)]; exact Nat.le_refl _) (fun k hk _ => by rw [hLA.2.1.2.2.1]) (fun k _ _ => th_A hth (by decide) k) (fun y _ _ z hz => th_A hth (by simp only [List.mem_cons, List.not_mem_nil, or_false] at hz ⊢; omega) y) hB
theorem P_hideL {m : Nat} (h : RP χ n t r p f vo Op Oa Ou E O c s) (hm : m ≤ cnt s 56) (hloc : ∀ i, m ≤ i → i < cnt s 56 → cnt s 64 ≤ ca s 51 (ca s 57 i)) (hLA : LA c (r + 15) ((cLs c (r + 15)).take m) c') (hn' : CLN c') :
    RP χ n t r p f vo Op Oa Ou E O c' (tsI s 56 (Int32.ofNat m)) ∧ KC r c c' ∧ KT s (tsI s 56 (Int32.ofNat m)) ∧ cnt (tsI s 56 (Int32.ofNat m)) 56 = m ∧ (∀ b, raw c b → raw c' b) := by
  obtain ⟨hL, hfi, hn, hQ, hN, hOu, hOp, hOa, hOu2⟩ := h
  obtain ⟨hS, hC, hG, hLm, hM, hU, hV, hI, hF, hA, hB⟩ := hQ
  have hvL := RSt_vL hS
  have hI0 := hI
  obtain ⟨i1, i2, ⟨i3, i4, i5⟩, i6⟩ := hI
  have h12 := i3.2
  have hch := LA_ch hLA hvL
  have hth : TH [56] [] [] [] s (tsI s 56 (Int32.ofNat m)) := TH_I (by simp) (TH_refl _ _ _ _ s)
  have e56 : tI (tsI s 56 (Int32.ofNat m)) 56 = Int32.ofNat m := by rw [t_I_I, if_pos rfl]
  have c56 := cnt_of e56 (by omega)
  have hKC : KC r c c' := KC_of hch hS hLA.1.2.2.1 (by decide)
  have hKT : KT s (tsI s 56 (Int32.ofNat m)) := KT_of hth (by decide)
  obtain ⟨w1, w2, q, y1, y2, y3, y4, y5, y6, y7, y8, y9⟩ := RI_fr hch hth hS hV (by decide) hI0
  have hCP : CPr (tsI s 56 (Int32.ofNat m)) q := by
    intro k hk ha i hi
    rw [th_cnt hth (by decide)] at hk
    rw [anc_fr hth (by decide), th_cnt hth (by decide)] at ha
    rw [th_ca hth (by decide)] at hi
    rw [y9, c56, th_ca hth (x := 45) (by decide)]
    rcases y8 k hk ha i hi with ⟨j, j1, j2⟩ | w
    · by_cases hj : j < m
      · exact Or.inl ⟨j, hj, by rw [th_ca hth (by decide)]; exact j2⟩
      · exfalso
        have e1 := cap_lt hU hV (k + 1) k (by omega) hk i hi
        have e2 := anc_le hU _ _ _ i1.2.1 ha
        have e3 := hloc j (by omega) j1
        rw [j2] at e1
        omega
    · exact Or.inr w
  refine ⟨⟨LX_ch hch hth (by rw [hLA.2.1.2.2.2.1]) (by rw [hLA.2.1.2.2.2.2.1]) (by decide) hL, hfi, hn', ⟨RSt_fr hch (by decide) hS, RCt_fr hch hth hS (by decide) hC, RGt_fr hch hth hS (by decide) hG, RLt_fr hch hth hS (by decide) hLm, RMt_fr hch hth hS (by decide) (by decide) hM, RUt_fr hch hth hS (by decide) (by decide) hU, RVt_fr hch hth hS hU (by decide) hV, ⟨w1.1, w1.2, ⟨cok_of e56 (by omega) (by omega), ?_, fun i hi => ?_⟩, q, y1, y2, y3, y4, y5, y6, y7, hCP⟩, RFt_fr hch hth hS hU (by decide) hF, RAt_fr hch hth hS (by decide) hA, ?_⟩, RNt_fr hth (by decide) hN, hOu, hOp, hOa, hOu2⟩, hKC, hKT, c56, LA_raw hLA hvL (by decide)⟩
  · rw [hLA.2.2.1, c56, List.length_take, i4]; omega
  · rw [c56] at hi
    rw [hLA.2.2.1]
    obtain ⟨g1, g2, g3', g4', g5'⟩ := i5 i (by omega)
    refine ⟨g1, g2, ?_, (w2 _ g2 ⟨g4', g5'⟩).1, (w2 _ g2 ⟨g4', g5'⟩).2⟩
    rw [lst_take _ _ _ hi]; exact g3'
  · exact RBt_mono hKC hKT hU.2.1.1 (fun v hv => (hV.2.1 v hv).2.2.1) rfl (Nat.le_refl _) (fun k hk _ => by rw [hLA.2.1.2.2.1]) (fun k _ _ => rfl) (fun y _ _ z hz => rfl) hB
end
