set_option maxRecDepth 100000
set_option maxHeartbeats 4000000
/-! D34: a node is built: its children one behind the other -/
section
variable {χ : Nat → Int32} {n t r : Nat} {Oa Ou : Nat → Prop} {O : Nat}
/-- what is held of a child: its part, node, height, tries, weight -/
abbrev cE : Type := Nat × Nat × Nat × Nat × Nat
def cEy (e : cE) : Nat := e.2.1
def cEW (e : cE) : Nat := e.2.2.2.2
def sW : List cE → Nat
  | [] => 0
  | e :: l => cEW e + sW l
theorem sW_snoc (l : List cE) (e : cE) : sW (l ++ [e]) = sW l + cEW e := by
  induction l with
  | nil => simp [sW]
  | cons a l ih => simp only [List.cons_append, sW, ih]; omega
/-- node N of a unit is open and has the children L; X: weight that is paid already -/
def BS (χ : Nat → Int32) (n t r f0 : Nat) (vo0 : Nat → Nat) (Op Oa Ou : Nat → Prop) (E X O : Nat) (c0 : cS) (s0 : tS) (N K : Nat) (L : List cE) (p f : Nat) (vo : Nat → Nat) (c : cS) (s : tS) : Prop :=
  RP χ n t r p f vo (fun y => Op y ∨ y = N) Oa Ou (E + X + sW L) O c s ∧ ST n r f0 c0 s0 f c s ∧ (∀ v, v < cnt s0 50 → vo v = vo0 v) ∧ cnt s0 65 ≤ N ∧ N < cnt s 65 ∧ KS s0 s ∧
  tA s 66 N = Int32.ofNat K ∧ tA s 67 N = Int32.ofNat (cnt s0 64) ∧ tA s 71 N = -1 ∧ lnk s (L.map cEy) (tA s 70 N) ∧ (L.map cEy).Nodup ∧
  ∃ g, ∀ e, e ∈ L → cnt s0 65 ≤ cEy e ∧ cEy e < cnt s 65 ∧ cEy e ≠ N ∧ tA s 72 (cEy e) = Int32.ofNat N ∧ TR g (fun q => cnt s0 65 ≤ q ∧ q ≠ N ∧ q ∉ L.map cEy) r c s (cnt s0 64) e.2.2.1 e.2.2.2.1 e.1 (cEy e) (cEW e)
theorem lnk_cg {s s' : tS} : ∀ (ys : List Nat) (p : Int32), (∀ y, y ∈ ys → tA s' 71 y = tA s 71 y) → lnk s ys p → lnk s' ys p := by
  intro ys
  induction ys with
  | nil => intro p _ h; exact h
  | cons y l ih => intro p hy ⟨h1, h2, h3⟩; exact ⟨h1, h2, by rw [hy y (by simp)]; exact ih _ (fun z hz => hy z (by simp [hz])) h3⟩
theorem lnk_mem {s : tS} : ∀ (ys : List Nat) (p : Int32), lnk s ys p → ∀ y, y ∈ ys → y < 900 := by
  intro ys
  induction ys with
  | nil => intro p _ y hy; cases hy
  | cons z l ih =>
    intro p ⟨h1, h2, h3⟩ y hy
    rcases List.mem_cons.1 hy with e | e
    · rw [e]; exact h2
    · exact ih _ h3 y e
theorem lnk_snoc {s s' : tS} {y : Nat} (hy9 : y < 900) (h71 : tA s' 71 y = -1) : ∀ (ys : List Nat) (p : Int32) (z : Nat), y ∉ (z :: ys) → (z :: ys).Nodup → (∀ q, q ≠ (z :: ys).getLast (by simp) → tA s' 71 q = tA s 71 q) → tA s' 71 ((z :: ys).getLast (by simp)) = Int32.ofNat y → lnk s (z :: ys) p → lnk s' ((z :: ys) ++ [y]) p := by
  intro ys
  induction ys with
  | nil =>
    intro p z hn _ ho hl ⟨h1, h2, h3⟩
    exact ⟨h1, h2, by have : tA s' 71 z = Int32.ofNat y := hl; rw [this]; exact ⟨rfl, hy9, h71⟩⟩
  | cons a l ih =>
    intro p z hn hd ho hl ⟨h1, h2, h3⟩
    have hd2 := List.nodup_cons.1 hd
    have hz : z ≠ (z :: a :: l).getLast (by simp) := by
      intro e
      apply hd2.1
      have : (z :: a :: l).getLast (by simp) = (a :: l).getLast (by simp) := by simp [List.getLast_cons]
      rw [this] at e
      rw [e]
      exact List.getLast_mem _
    refine ⟨h1, h2, ?_⟩
    rw [ho z hz]
    have hg : (z :: a :: l).getLast (by simp) = (a :: l).getLast (by simp) := by simp [List.getLast_cons]
    refine ih _ a (fun q => hn (List.mem_cons_of_mem _ q)) hd2.2 (fun q hq => ho q (by rw [hg]; exact hq)) (by rw [← hg]; exact hl) h3
/-- over a word -/
theorem BS_tok {f0 : Nat} {vo0 vo : Nat → Nat} {Op : Nat → Prop} {E X N K p f p' f' : Nat} {L : List cE} {c0 c c' : cS} {s0 s s' : tS} (hz : (cLs c0 (r + 8)).length = cnt s0 35) (h : BS χ n t r f0 vo0 Op Oa Ou E X O c0 s0 N K L p f vo c s)
    (hw : WK χ n t r p vo (fun y => Op y ∨ y = N) Oa Ou (E + X + sW L) O c s c' s' p' f') : BS χ n t r f0 vo0 Op Oa Ou E X O c0 s0 N K L p' f' vo c' s' ∧ p ≤ f' := by
  obtain ⟨hR, hST, hvo, hN0, hN1, hKS, k66, k67, k71, hl, hnd, g, hg⟩ := h
  have hST2 := (WK_ST hR hw).1
  have hth := hw.2.2.2.1
  have o : ∀ z y, tA s' z y = tA s z y := fun z y => th_A hth (by simp) y
  have hcu := hR.2.2.2.1.2.2.2.2.2.2.2.1.1
  have hu : cnt s0 64 < cnt s 35 := by rw [← hKS.2.2.2.2]; exact hcu.2.1
  refine ⟨⟨hw.1, ST_trans (ST_lz hz hR hST) hST hST2, hvo, hN0, by rw [th_cnt hth (by decide)]; exact hN1, KS_trans hKS (KS_th hth (by decide)), by rw [o]; exact k66, by rw [o]; exact k67, by rw [o]; exact k71, by rw [o]; exact lnk_cg _ _ (fun y _ => o 71 y) hl, hnd, g, fun e he => ?_⟩, hw.2.1⟩
  obtain ⟨e1, e2, e3, e4, e5⟩ := hg e he
  refine ⟨e1, by rw [th_cnt hth (by decide)]; exact e2, e3, by rw [o]; exact e4, ?_⟩
  have hS := hR.2.2.2.1
  exact TR_mono hST2.1 hST2.2.1 (RP_len hR) (fun v hv => (hS.2.2.2.2.2.2.1.2.1 v hv).2.2.1) (fun q _ z _ => o z q) hu g _ _ _ _ _ (fun z _ => o z _) e5
theorem gt_facts {s : tS} {N y : Nat} {ys : List Nat} (hN : N ∉ ys) (hy : y ∉ ys) (hyN : y ≠ N) (hnd : ys.Nodup) (hl : lnk s ys (tA s 70 N)) (h71 : tA s 71 y = -1) (hy9 : y < 900) :
    (∀ q, q ≠ N → tA (gtT s N y ys) 70 q = tA s 70 q) ∧ (∀ q, q ∉ ys → tA (gtT s N y ys) 71 q = tA s 71 q) ∧ (∀ q, q ≠ y → tA (gtT s N y ys) 72 q = tA s 72 q) ∧ tA (gtT s N y ys) 72 y = Int32.ofNat N ∧ lnk (gtT s N y ys) (ys ++ [y]) (tA (gtT s N y ys) 70 N) := by
  cases ys with
  | nil =>
    have e : gtT s N y [] = tsA (tsA s 72 y (Int32.ofNat N)) 70 N (Int32.ofNat y) := rfl
    rw [e]
    refine ⟨fun q hq => by simp [gT, hq], fun q _ => by simp [gT], fun q hq => by simp [gT, hq], by simp [gT], ⟨by simp [gT], hy9, ?_⟩⟩
    show tA (tsA (tsA s 72 y (Int32.ofNat N)) 70 N (Int32.ofNat y)) 71 y = -1
    simp [gT, h71]
  | cons z l =>
    have e : gtT s N y (z :: l) = tsA (tsA s 72 y (Int32.ofNat N)) 71 ((z :: l).getLast (by simp)) (Int32.ofNat y) := by
      unfold gtT
      rw [List.getLast?_eq_some_getLast (by simp)]
    have hlast := List.getLast_mem (show z :: l ≠ [] by simp)
    rw [e]
    generalize hg : (z :: l).getLast (by simp) = last at hlast
    have hyl : y ≠ last := fun q => hy (by rw [q]; exact hlast)
    refine ⟨fun q hq => by simp [gT], fun q hq => ?_, fun q hq => by simp [gT, hq], by simp [gT], ?_⟩
    · have : q ≠ last := fun w => hq (by rw [w]; exact hlast)
      simp [gT, this]
    · have e70 : tA (tsA (tsA s 72 y (Int32.ofNat N)) 71 last (Int32.ofNat y)) 70 N = tA s 70 N := by simp [gT]
      rw [e70]
      refine lnk_snoc hy9 (by simp [gT, hyl, h71]) l _ z hy hnd (fun q hq => ?_) ?_ hl
      · rw [hg] at hq
        simp [gT, hq]
      · rw [hg]; simp [gT]
theorem gt_other {s : tS} {N y : Nat} {ys : List Nat} {z : Nat} (hz : z ∉ [70, 71, 72]) (q : Nat) : tA (gtT s N y ys) z q = tA s z q := th_A (gt_th s N y ys) hz q
/-- a child more -/
theorem BS_childX (d : Nat) {f0 : Nat} {vo0 vo : Nat → Nat} {Op : Nat → Prop} {E X N K p f p' f' H D a y : Nat} {L : List cE} {c0 c c' : cS} {s0 s s' : tS} (hz : (cLs c0 (r + 8)).length = cnt s0 35) (h : BS χ n t r f0 vo0 Op Oa Ou E X O c0 s0 N K L p f vo c s)
    (hw : PXo χ n t r f p vo (fun y => Op y ∨ y = N) Oa Ou (E + X + sW L) O c s H D a y c' s' p' f') : ∃ W vo' s'', cT (d + 2) 49 [eR (.ref 0), eI (Int32.ofNat N), eI (Int32.ofNat y)] s' = some (.inl none, s'') ∧ BS χ n t r f0 vo0 Op Oa Ou E X O c0 s0 N K (L ++ [(a, y, H, D, W)]) p' f' vo' c' s'' ∧ p ≤ f' ∧ s'' = gtT s' N y (L.map cEy) ∧ (∀ v, v < cnt s 50 → vo' v = vo v) := by
  obtain ⟨hR, hST, hvo, hN0, hN1, hKS, k66, k67, k71, hl, hnd, g, hg⟩ := h
  obtain ⟨vo', g2, W, hR', hST', hvo', hy0, hy1, hTR, h71, hKS', hpf⟩ := hw
  have hS := hR.2.2.2.1
  have hS' := hR'.2.2.2.1
  have o : ∀ q, q < cnt s 65 → ∀ z, z ∈ [66, 67, 68, 69, 70, 71, 72] → tA s' z q = tA s z q := hST'.2.2.1
  have hys : ∀ q, q ∈ L.map cEy → cnt s0 65 ≤ q ∧ q < cnt s 65 ∧ q ≠ N := fun q hq => by
    obtain ⟨e, he, rfl⟩ := List.mem_map.1 hq
    obtain ⟨e1, e2, e3, _⟩ := hg e he
    exact ⟨e1, e2, e3⟩
  have h900 := hR'.2.2.2.1.2.1.2.2.2.2.1.2
  have h65 : cnt s 65 ≤ cnt s' 65 := hST'.2.1.1 65 (by simp)
  have hyys : y ∉ L.map cEy := fun q => by have := (hys y q).2.1; omega
  have hNys : N ∉ L.map cEy := fun q => (hys N q).2.2 rfl
  have hyN : y ≠ N := by omega
  have hl' : lnk s' (L.map cEy) (tA s' 70 N) := by
    rw [o N hN1 70 (by simp)]
    exact lnk_cg _ _ (fun q hq => o q (hys q hq).2.1 71 (by simp)) hl
  have e1 := t_gets d (x := N) (y := y) hR'.2.1 (by omega) (by omega) hl'
  obtain ⟨g70, g71, g72, g72y, glnk⟩ := gt_facts hNys hyys hyN hnd hl' h71 (by omega)
  have hth := gt_th s' N y (L.map cEy)
  have got : ∀ z, z ∉ [70, 71, 72] → ∀ q, tA (gtT s' N y (L.map cEy)) z q = tA s' z q := fun z hz q => th_A hth hz q
  generalize hge : gtT s' N y (L.map cEy) = s'' at e1 g70 g71 g72 g72y glnk hth got
  have hcu := hS.2.2.2.2.2.2.2.1.1
  have hou : Ou (cnt s 64) := hR.2.2.2.2.2.1
  have h64 : cnt s 64 = cnt s0 64 := hKS.2.2.2.2
  have hu0 : cnt s0 64 < cnt s 35 := by rw [← h64]; exact hcu.2.1
  have h35 : cnt s 35 ≤ cnt s' 35 := hST'.2.1.1 35 (by simp)
  have c67N : ca s' 67 N = cnt s 64 := by
    have : tA s' 67 N = Int32.ofNat (cnt s0 64) := by rw [o N hN1 67 (by simp)]; exact k67
    rw [ca_of this (by have := hcu.1.2; omega), h64]
  have c67y : ca s' 67 y = cnt s 64 := (TR_root _ _ _ _ _ _ _ hTR).2
  have c67ys : ∀ q, q ∈ L.map cEy → ca s' 67 q = cnt s 64 := fun q hq => by
    obtain ⟨e, he, rfl⟩ := List.mem_map.1 hq
    obtain ⟨w1, w2, w3, w4, w5⟩ := hg e he
    rw [ca_eq (o _ w2 67 (by simp)), (TR_root _ _ _ _ _ _ _ w5).2, h64]
  have hsame : ∀ q, q ≠ N → q ≠ y → q ∉ L.map cEy → ∀ z, tA s'' z q = tA s' z q := fun q h1 h2 h3 z => by
    by_cases hz : z ∈ [70, 71, 72]
    · simp only [List.mem_cons, List.not_mem_nil, or_false] at hz
      rcases hz with e | e | e <;> rw [e]
      · exact g70 q h1
      · exact g71 q h3
      · exact g72 q h2
    · exact got z hz q
  have hRn := P_links hR' hth (fun q hq ho z _ => hsame q (by rintro rfl; exact ho (by rw [c67N]; exact hou)) (by rintro rfl; exact ho (by rw [c67y]; exact hou)) (fun w => ho (by rw [c67ys q w]; exact hou)) z)
  have n65 : cnt s'' 65 = cnt s' 65 := th_cnt hth (by simp)
  have hmap : (L ++ [(a, y, H, D, W)]).map cEy = L.map cEy ++ [y] := by rw [List.map_append]; rfl
  have hKTn := KT_of hth (by decide)
  have hRn2 : RP χ n t r p' f' vo' (fun y => Op y ∨ y = N) Oa Ou (E + X + sW (L ++ [(a, y, H, D, W)])) O c' s'' := by
    have e : E + X + sW (L ++ [(a, y, H, D, W)]) = E + X + sW L + W := by
      rw [sW_snoc]
      show E + X + (sW L + W) = _
      omega
    rw [e]
    exact hRn
  refine ⟨W, vo', s'', e1, ⟨hRn2, ⟨KC_trans (ST_lz hz hR hST) hST.1 hST'.1, KT_trans hST.2.1 (KT_trans hST'.2.1 hKTn), fun q hq z hz => ?_, by have := hST.2.2.2.1; have := hST'.2.2.2.1; omega, by have := hST.2.2.2.2.1; have := hST'.2.2.2.2.1; omega, by have := hST.2.2.2.2.2.1; have := hST'.2.2.2.2.2.1; omega, fun b q => hST'.2.2.2.2.2.2 b (hST.2.2.2.2.2.2 b q)⟩, fun v hv => ?_, hN0, by omega, KS_trans hKS (KS_trans hKS' (KS_th hth (by decide))), ?_, ?_, ?_, ?_, ?_, max g g2, fun e he => ?_⟩, hpf, rfl, hvo'⟩
  · have hq0 : cnt s0 65 ≤ cnt s 65 := hST.2.1.1 65 (by simp)
    rw [hsame q (by omega) (by omega) (fun w => by have := (hys q w).1; omega), o q (by omega) z hz]
    exact hST.2.2.1 q hq z hz
  · rw [hvo' v (by have := hST.2.1.1 50 (by simp); omega), hvo v hv]
  · rw [got 66 (by simp), o N hN1 66 (by simp)]; exact k66
  · rw [got 67 (by simp), o N hN1 67 (by simp)]; exact k67
  · rw [g71 N hNys, o N hN1 71 (by simp)]; exact k71
  · rw [hmap]; exact glnk
  · rw [hmap]
    rw [List.nodup_append]
    exact ⟨hnd, by simp, fun q hq z hz => by
      rw [List.mem_singleton] at hz
      rintro rfl
      rw [hz] at hq
      exact hyys hq⟩
  · rw [hmap]
    rcases List.mem_append.1 he with he | he
    · obtain ⟨w1, w2, w3, w4, w5⟩ := hg e he
      have hey : cEy e ∈ L.map cEy := List.mem_map.2 ⟨e, he, rfl⟩
      have hne : cEy e ≠ y := by omega
      refine ⟨w1, by omega, w3, by rw [g72 _ hne, o _ w2 72 (by simp)]; exact w4, ?_⟩
      have w6 := TR_QQ (Q' := fun q => cnt s0 65 ≤ q ∧ q ≠ N ∧ q ∉ L.map cEy ∧ q < cnt s 65) (fun q hq b1 _ => ⟨hq.1, hq.2.1, hq.2.2, b1⟩) _ _ _ _ _ _ w5
      have w7 := TR_mono hST'.1 (KT_trans hST'.2.1 hKTn) (RP_len hR) (fun v hv => (hS.2.2.2.2.2.2.1.2.1 v hv).2.2.1) (fun q hq z hz => by rw [hsame q hq.2.1 (by omega) hq.2.2.1, o q hq.2.2.2 z hz]) hu0 g _ _ _ _ _ (fun z hz => by
        have hz1 : z ∉ [71, 72] := by simp only [List.mem_cons, List.not_mem_nil, or_false] at hz ⊢; omega
        have hz2 : z ∈ [66, 67, 68, 69, 70, 71, 72] := by simp only [List.mem_cons, List.not_mem_nil, or_false] at hz ⊢; omega
        rw [← o _ w2 z hz2]
        by_cases q : z = 70
        · rw [q]; exact g70 _ w3
        · exact got z (by simp only [List.mem_cons, List.not_mem_nil, or_false] at hz1 ⊢; omega) _) w6
      have hmm : ∀ q, (cnt s0 65 ≤ q ∧ q ≠ N ∧ q ∉ L.map cEy ∧ q < cnt s 65) → q ∉ L.map cEy ++ [y] := fun q hq w => by
        rcases List.mem_append.1 w with w | w
        · exact hq.2.2.1 w
        · rw [List.mem_singleton] at w
          omega
      exact TR_le (Nat.le_max_left g g2) (TR_Q (fun q hq => ⟨hq.1, hq.2.1, hmm q hq⟩) _ _ _ _ _ _ _ w7)
    · rw [List.mem_singleton] at he
      rw [he]
      refine ⟨by have : cnt s0 65 ≤ cnt s 65 := hST.2.1.1 65 (by simp); show cnt s0 65 ≤ y; omega, by show y < cnt s'' 65; omega, hyN, g72y, ?_⟩
      have w7 := TR_mono (KC_refl r c') hKTn (RP_len hR') (fun v hv => (hS'.2.2.2.2.2.2.1.2.1 v hv).2.2.1) (fun q hq z _ => hsame q (by omega) hq.2.2 (fun w => by have := (hys q w).2.1; omega) z) (show cnt s 64 < cnt s' 35 by rw [h64]; omega) g2 _ _ _ _ _ (fun z hz => by
        by_cases q : z = 70
        · rw [q]; exact g70 _ hyN
        · exact got z (by simp only [List.mem_cons, List.not_mem_nil, or_false] at hz ⊢; omega) _) hTR
      rw [h64] at w7
      have hmm : ∀ q, cnt s 65 ≤ q → q ≠ y → q ∉ L.map cEy ++ [y] := fun q h1 h2 w => by
        rcases List.mem_append.1 w with w | w
        · have := (hys q w).2.1
          omega
        · rw [List.mem_singleton] at w
          exact h2 w
      have hq0 : cnt s0 65 ≤ cnt s 65 := hST.2.1.1 65 (by simp)
      exact TR_le (Nat.le_max_right g g2) (TR_Q (fun q hq => ⟨by omega, by omega, hmm q hq.1 hq.2.2⟩) _ _ _ _ _ _ _ w7)
theorem BS_child (d : Nat) {f0 : Nat} {vo0 vo : Nat → Nat} {Op : Nat → Prop} {E X N K p f p' f' H D a y : Nat} {L : List cE} {c0 c c' : cS} {s0 s s' : tS} (hz : (cLs c0 (r + 8)).length = cnt s0 35) (h : BS χ n t r f0 vo0 Op Oa Ou E X O c0 s0 N K L p f vo c s)
    (hw : PXo χ n t r f p vo (fun y => Op y ∨ y = N) Oa Ou (E + X + sW L) O c s H D a y c' s' p' f') : ∃ W vo' s'', cT (d + 2) 49 [eR (.ref 0), eI (Int32.ofNat N), eI (Int32.ofNat y)] s' = some (.inl none, s'') ∧ BS χ n t r f0 vo0 Op Oa Ou E X O c0 s0 N K (L ++ [(a, y, H, D, W)]) p' f' vo' c' s'' ∧ p ≤ f' := by
  obtain ⟨W, vo', s'', e1, e2, e3, _, _⟩ := BS_childX d hz h hw
  exact ⟨W, vo', s'', e1, e2, e3⟩
end
