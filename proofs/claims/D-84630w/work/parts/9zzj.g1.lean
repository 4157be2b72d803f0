set_option maxRecDepth 100000
set_option maxHeartbeats 4000000
/-! D109: a grant -/
theorem c_gi (d : Nat) {c : cS} {a P : Nat} (ha : cCl c a = 13) (h0 : cCl c (cNx c) = 0) : cC (d + 11) 1300 [eR (.ref a), eR (.ref P)] c = some (.inl none, csR (csR (nlC c 6301 2) 1301 a (.ref (cNx c))) 1300 a (.ref P)) := by
  have hne : a ≠ cNx c := by rintro rfl; rw [h0] at ha; cases ha
  have hnw : cmore (csCl c (cNx c) 11301) (csz 11301) = nwC c 11301 := rfl
  have g1 : cCl (nlC c 6301 2) a = 13 := by simp [nlC, nwC, gC, hne, ha]
  rw [kX13_init, r_cck, if_pos ha, uX13_init]
  simp only [pP, ha, rC, bB, Nat.reduceDiv, Nat.reduceLeDiff, Nat.reduceLT,  eq_self, if_true, if_false, true_and, and_true, false_and, and_false, or_true, true_or, or_false, false_or, reduceIte, reduceCtorEq, Nat.reduceEqDiff, not_true_eq_false, not_false_eq_true, r_misN, r_misR]
  rw [r_cnw, hnw, c_nl (d + 1) (k := 6301) (m := 2) rfl (by decide) (by decide), b_V, r_cpR, if_pos ⟨g1, rfl⟩, r_cpR, if_pos ⟨g1, rfl⟩]
section
variable {χ : Nat → Int32} {n t r p f : Nat} {c c' : cS} {s s' : tS}
theorem LX_20 {g : Nat} {v : Int32} (h : LX χ n (r + 16) t 4 (r + 19) (r + 17) p f c (tsI s g v)) (hg : g ∉ [4, 8, 9, 10, 11, 14, 15, 16]) : LX χ n (r + 16) t 4 (r + 19) (r + 17) p f c s := by
  have ht : TH [g] [] [] [] (tsI s g v) s := by
    have := TH_I (YI := [g]) (YL := []) (YA := []) (YB := []) (x := g) (n := tI s g) (by simp) (TH_refl [g] [] [] [] (tsI s g v))
    rw [tsI_back] at this; exact this
  exact LX_ch (CH_refl [] [] [] [] c) ht rfl rfl (by simp only [Bool.and_eq_true]; refine ⟨⟨⟨⟨⟨⟨rfl, rfl⟩, rfl⟩, ?_⟩, rfl⟩, rfl⟩, rfl⟩; unfold dj; rw [List.all_eq_true]; intro x hx; simp only [List.contains_cons, List.contains_nil, Bool.or_false, Bool.not_eq_true', beq_eq_false_iff_ne, ne_eq]; rintro rfl; exact hg hx) h
/-- a right of the grant that is open -/
theorem gr_right (dc dt : Nat) {g L : Nat} (h : R1o χ n t r g L p f c s) :
    (∃ a c' s' k pl, cC (dc + 22) 805 [eR (.ref r), eR (.ref L)] c = some (.inr (.ref a), c') ∧ cT (dt + 22) 28 [eR (.ref 0), eI (Int32.ofNat g)] s = some (.inl none, s') ∧ thr c' a k pl ∧ tI s' 6 = k ∧ tI s' 7 = pl ∧ k ≠ 0 ∧ cNx c' ≤ cNx c + 10 ∧ cSl c' ≤ cSl c + 60) ∨
    ∃ c' s' p' f', cC (dc + 22) 805 [eR (.ref r), eR (.ref L)] c = some (.inl none, c') ∧ cT (dt + 22) 28 [eR (.ref 0), eI (Int32.ofNat g)] s = some (.inl none, s') ∧ R1o χ n t r g L p' f' c' s' ∧ f + 2 ≤ f' ∧ p ≤ f' ∧ cNx c' ≤ cNx c + 8 ∧ cSl c' ≤ cSl c + 60 ∧ lid c' (r + 2) g = lid c (r + 2) g := by
  obtain ⟨h1, h2, h3, h4, h5⟩ := h
  obtain ⟨hL, hfi, hn, ⟨hS, hC, hG⟩, hzz, hll⟩ := id h1
  have c20 : cnt (tsI s 20 (Int32.ofNat (g + 1))) 20 = g + 1 := cnt_of (by rw [t_I_I, if_pos rfl]) (by omega)
  have hLs0 := LX_20 hL (by decide)
  have hgl : cCl c (r + 2) = 5900 := hS.2.2.2.2.2.2.1
  have hc13 : ∀ k, k < g + 1 → cCl c (lid c (r + 2) k) = 13 := fun k hk => (hG.2.1.2 k (by rw [c20]; exact hk)).2
  obtain ⟨Pg, Lg, w1, w2, w3, w4⟩ := hG.2.2 g (by rw [c20]; omega)
  rw [h4] at w3
  obtain rfl := Value.ref.inj w3
  have hrO : rOK c s L g 6301 := w4
  rcases J_right dc dt (L := L) (of := g) (cl := 6301) (by omega) (by decide) (by decide) (by decide) hS.1 hS.2.1 hLs0 hfi hn hrO with hb | ⟨c', s', p', f', e1, e2, hX, hff, hpf, hfi', h7, hn', hch, hth, hrO', hEx, o23, o24, h8, nx, sl, sl0, hraw, hAI, hLsb⟩
  · left; exact hb
  right
  have hlid : ∀ i, lid c' (r + 2) i = lid c (r + 2) i := fun i => ch_lid hch hgl (by decide) (by decide) i
  have hthv : TH [8, 9, 10, 11, 14, 15, 20] [12] [18, 19, 23] [13, 17, 24] (tsI s 20 (Int32.ofNat (g + 1))) (tsI s' 20 (Int32.ofNat (g + 1))) := by
    obtain ⟨t1, t2, t3, t4⟩ := hth
    refine ⟨fun x hx => ?_, t2, t3, t4⟩
    rw [t_I_I, t_I_I, if_neg (by rintro rfl; simp at hx), if_neg (by rintro rfl; simp at hx)]
    exact t1 x (fun q => hx (by simp only [List.mem_cons, List.not_mem_nil, or_false] at q ⊢; omega))
  have c20' : cnt (tsI s' 20 (Int32.ofNat (g + 1))) 20 = g + 1 := cnt_of (by rw [t_I_I, if_pos rfl]) (by omega)
  have hLv : LX χ n (r + 16) t 4 (r + 19) (r + 17) p' f' c' (tsI s' 20 (Int32.ofNat (g + 1))) := LX_ch (CH_refl [] [] [] [] c') (TH_I (YI := [20]) (YL := []) (YA := []) (YB := []) (by simp) (TH_refl _ _ _ _ s')) rfl rfl (by decide) hX
  have hG' : RGt r c' (tsI s' 20 (Int32.ofNat (g + 1))) := by
    refine ⟨cok_of (by rw [t_I_I, if_pos rfl]) (by omega) (by omega), ?_, fun k hk => ?_⟩
    · rw [c20', ← c20]; exact lsr_fr hch hgl (by decide) (by decide) (by decide) hG.2.1
    · rw [c20'] at hk
      have hck := hc13 k hk
      rw [hlid, ch_R hch hck (by decide) (by decide), ch_R hch hck (by decide) (by decide)]
      obtain ⟨P2, L2, y1, y2, y3, y4⟩ := hG.2.2 k (by rw [c20]; exact hk)
      have hp2 : pOK c' (tsI s' 20 (Int32.ofNat (g + 1))) P2 (8 + k) := pOK_ix hch (by decide) (by decide) (hEx (8 + k) (by omega)) y2
      by_cases e : k = g
      · subst e
        exact ⟨P2, L, y1, hp2, h4, hrO'⟩
      · have hne : L2 ≠ L := fun z => h5 k (by omega) (by rw [y3, z])
        exact ⟨P2, L2, y1, hp2, y3, rOK_ls hch (by decide) (by decide) (by decide) (by decide) (hLsb L2 hne (by rw [y4.1]; decide)) (o23 _ e) (fun i hi => o24 _ (by omega)) (fun i hi => hEx _ (by omega)) y4⟩
  refine ⟨c', s', p', f', e1, e2, ⟨R1_fr h1 hLv hfi' hn' hch hthv hG' (by decide), (th_I hth (by decide)).trans h2, h3, ?_, fun k hk => ?_⟩, hff, hpf, nx, sl, hlid g⟩
  · rw [hlid, ch_R hch (hc13 g (by omega)) (by decide) (by decide)]; exact h4
  · rw [hlid, ch_R hch (hc13 k (by omega)) (by decide) (by decide)]; exact h5 k hk
/-- rights up to the bracket -/
theorem gr_loop (dc dt : Nat) {g L a : Nat} {c0 : cS} {f0 : Nat} : ∀ (m p f : Nat) (c : cS) (s : tS), n - f ≤ m → R1o χ n t r g L p f c s → lid c (r + 2) g = a → cNx c + 300 * (n - f) ≤ cNx c0 + 300 * (n - f0) → cSl c + 2000 * (n - f) ≤ cSl c0 + 2000 * (n - f0) →
    pN n f0 c0 (fX8_grant_31 (cC (dc + 30)) (.ref r) (.ref a) c) (fX7_grant_26 (cT (dt + 30)) s) ∨ ∃ c' s' p' f', fX8_grant_31 (cC (dc + 30)) (.ref r) (.ref a) c = some (.inl none, c') ∧ fX7_grant_26 (cT (dt + 30)) s = some (.inl none, s') ∧ R1 χ n t r p' f' c' s' ∧ f < f' ∧ cNx c' + 300 * (n - f') ≤ cNx c0 + 300 * (n - f0) ∧ cSl c' + 2000 * (n - f') ≤ cSl c0 + 2000 * (n - f0) := by
  intro m
  induction m with
  | zero =>
    intro p f c s hm h hla k1 k2
    obtain ⟨h1, h2, h3, h4, h5⟩ := id h
    obtain ⟨hL, hfi, hn, ⟨hS, hC, hG⟩, hzz, hll⟩ := id h1
    have hw := hL.1.1.1
    have hL0 := LX_20 hL (by decide)
    have h8 : tI s 8 = 0 := by
      apply Decidable.byContradiction
      intro q
      have := lw_lt hL0.2.2.2.2.2 q
      have := hL0.2.1
      have := hL0.1.2.2.2.2.2.2.1
      omega
    have h1004 : cI c 1004 (r + 16) = tI s 8 := hL.2.2.2.2.1
    left
    obtain ⟨q1, q2⟩ := lexEq20 s (Int32.ofNat (g + 1))
    rw [uX8_grant_31, r_cgR, if_pos hS.1, hS.2.1, r_cgI, if_pos hw, h1004, h8, if_neg (by decide), r_cgR, if_pos hS.1, hS.2.1, uX7_grant_26, t_fine (dt + 29), show tI s 6 = 0 from hfi, decide_eq_true rfl, bi_t, b_I, if_neg n10, h8, if_neg (by decide), uX7_grant_41]
    rcases J_signO (dc + 8) (dt + 9) 125 hL (q := s) hfi hfi q1 q2 (lx_sgn hL (by decide)) with hb | ⟨⟨q, _⟩, _⟩
    · refine pN_lx hb (f1 := f) (by omega) (by omega) (fun a c' q => by rw [q]; rfl) (fun s' q1 q2 => ?_)
      rw [q1, b_V, r_tpI]
      exact ⟨_, rfl, by rw [t_I_I, if_neg (by decide)], by rw [t_I_I, if_neg (by decide)]⟩
    · have q' : tI s 8 = 5 := q
      rw [h8] at q'; exact absurd q' (by decide)
  | succ m ih =>
    intro p f c s hm h hla k1 k2
    obtain ⟨h1, h2, h3, h4, h5⟩ := id h
    obtain ⟨hL, hfi, hn, ⟨hS, hC, hG⟩, hzz, hll⟩ := id h1
    have hw := hL.1.1.1
    have hL0 := LX_20 hL (by decide)
    have h1004 : cI c 1004 (r + 16) = tI s 8 := hL.2.2.2.2.1
    have c20 : cnt (tsI s 20 (Int32.ofNat (g + 1))) 20 = g + 1 := cnt_of (by rw [t_I_I, if_pos rfl]) (by omega)
    have hca : cCl c a = 13 := by rw [← hla]; exact (hG.2.1.2 g (by rw [c20]; omega)).2
    have h4' : cR c 1301 a = .ref L := by rw [← hla]; exact h4
    obtain ⟨q1, q2⟩ := lexEq20 s (Int32.ofNat (g + 1))
    rw [uX8_grant_31, r_cgR, if_pos hS.1, hS.2.1, r_cgI, if_pos hw, h1004, uX7_grant_26, t_fine (dt + 29), show tI s 6 = 0 from hfi, decide_eq_true rfl, bi_t, b_I, if_neg n10]
    by_cases hn1 : tI s 8 = 1
    · rw [if_pos hn1, if_pos hn1, r_cgR, if_pos hca, h4', h2]
      rcases gr_right (dc + 8) (dt + 8) h with hb | ⟨c1, s1, p1, f1, e1, e2, h', hff, hpf, nx, sl, hlg⟩
      · left
        refine pN_up hb (f1 := f) (by omega) (by omega) (fun a c' q => by rw [q]; rfl) (fun s' q1 q2 => ?_)
        obtain ⟨s'', g1, g2, g3⟩ := F_grant26 dt q2
        rw [q1, b_V, F_sign (dt + 26) _ q2, b_V]
        exact ⟨s'', g1, g2, g3⟩
      · obtain ⟨h1', h2', h3', h4'', h5'⟩ := id h'
        obtain ⟨hL', hfi', hn', ⟨hS', hC', hG'⟩, hzz', hll'⟩ := id h1'
        obtain ⟨q1', q2'⟩ := lexEq20 s1 (Int32.ofNat (g + 1))
        have hn0 := hL0.1.2.2.2.2.2.2.1
        have hn1' := hL'.1.2.2.2.2.2.2.1
        have hf1' := hL'.2.1
        have hla' : lid c1 (r + 2) g = a := hlg.trans hla
        rw [e1, e2, b_V, b_V, r_cgR, if_pos hS'.1, hS'.2.1]
        rcases J_signO (dc + 8) (dt + 9) 59 hL' (q := s1) hfi' hfi' q1' q2' (lx_sgn hL' (by decide)) with hb | ⟨hq, c2, z, p2, f2, e3, e4, hz, hok⟩
        · left
          refine pN_lx hb (f1 := f1) (by omega) (by omega) (fun a c' q => by rw [q]; rfl) (fun s' q1 q2 => ?_)
          obtain ⟨s'', g1, g2, g3⟩ := F_grant26 dt q2
          rw [q1, b_V]
          exact ⟨s'', g1, g2, g3⟩
        · have hcl2 := cC_cln e3 hn'
          have h'' := R1o_ok h' hcl2 hz hok
          obtain ⟨y1, y2, y3, y4, y5, y6, y7, y8⟩ := LXR hL' hok
          have hch := CH_of_LF hok.2.2.2.2.1 hn' (by rw [hL'.1.2.2.2.1.2.1]; decide)
          have hgl' : cCl c1 (r + 2) = 5900 := hS'.2.2.2.2.2.2.1
          rw [e3, e4, b_V, b_V]
          rcases ih p2 f2 c2 z (by omega) h'' ((ch_lid hch hgl' (by decide) (by decide) g).trans hla') (by omega) (by omega) with hb | ⟨c3, s3, p3, f3, g1, g2, g3, g4, g5, g6⟩
          · left; exact hb
          · right; exact ⟨c3, s3, p3, f3, g1, g2, g3, by omega, g5, g6⟩
    · rw [if_neg hn1, if_neg hn1, r_cgR, if_pos hS.1, hS.2.1, uX7_grant_41]
      rcases J_signO (dc + 8) (dt + 9) 125 hL (q := s) hfi hfi q1 q2 (lx_sgn hL (by decide)) with hb | ⟨⟨hq8, _⟩, c2, z, p2, f2, e3, e4, hz, hok⟩
      · left
        refine pN_lx hb (f1 := f) (by omega) (by omega) (fun a c' q => by rw [q]; rfl) (fun s' q1 q2 => ?_)
        rw [q1, b_V, r_tpI]
        exact ⟨_, rfl, by rw [t_I_I, if_neg (by decide)], by rw [t_I_I, if_neg (by decide)]⟩
      · have hcl2 := cC_cln e3 hn
        have h'' := R1o_ok h hcl2 hz hok
        obtain ⟨y1, y2, y3, y4, y5, y6, y7, y8⟩ := LXR hL hok
        obtain ⟨m1, m2, m3⟩ := y8 (by rw [hq8]; decide)
        right
        have e20 : tI z 20 = Int32.ofNat g := h''.2.1
        refine ⟨c2, _, p2, f2, by rw [e3, b_V], by rw [e4, b_V, r_tpI, e20], ?_, m1, by omega, by omega⟩
        rw [show Int32.ofNat g + 1 = Int32.ofNat (g + 1) from z_add g 1]
        exact h''.1
end
