set_option maxRecDepth 100000
set_option maxHeartbeats 4000000
/-! D96: an asking, from its place on -/
section
variable {χ : Nat → Int32} {n t r : Nat} {Oa Ou : Nat → Prop} {O : Nat}
variable {f0 p0 f1 p1 p f : Nat} {vo0 vo : Nat → Nat} {Op : Nat → Prop} {E m kd : Nat} {c0 c1 c : cS} {s0 s1 s : tS}
/-- the asking's node as a node under way -/
theorem aB_BS {Oa1 Oa' : Nat → Prop} {N : Nat} (hR0 : RP χ n t r p0 f0 vo Op Oa Ou E O c0 s0) (hST0 : ST n r f0 c0 s0 f1 c1 s1) (hKS0 : KS s0 s1) (hR1 : RP χ n t r p1 f1 vo Op Oa1 Ou (E + 60) O c1 s1) (h65 : cnt s1 65 = cnt s0 65) (hA : aB r c1 s1 c s m) (hR : RP χ n t r p f vo (fun y => Op y ∨ y = cnt s0 65) Oa' Ou (E + 60) O c s) (hKS : KS s1 s) (hN : cnt s0 65 < cnt s 65) (h66 : tA s 66 (cnt s0 65) = Int32.ofNat kd) (h67 : tA s 67 (cnt s0 65) = Int32.ofNat (cnt s0 64)) (h70 : tA s 70 (cnt s0 65) = -1) (h71 : tA s 71 (cnt s0 65) = -1) (hx : cNx c + 300 * (n - f) ≤ cNx c0 + 300 * (n - f0)) (hy : cSl c + 2000 * (n - f) ≤ cSl c0 + 2000 * (n - f0)) (hff : f0 ≤ f) (hraw : ∀ b, raw c1 b → raw c b) :
    BS χ n t r f0 vo Op Oa' Ou E 60 O c0 s0 (cnt s0 65) kd [] p f vo c s := by
  obtain ⟨a1, a2, ⟨a3, a3'⟩, a4, a5, a6, a7, a8⟩ := hA
  refine ⟨hR, ⟨KC_trans (ST_len hR0 hR1 hST0) hST0.1 a1, KT_trans hST0.2.1 a2, fun y hy' z hz => ?_, hx, hy, hff, fun b q => hraw b (hST0.2.2.2.2.2.2 b q)⟩, fun _ _ => rfl, Nat.le_refl _, hN, KS_trans hKS0 hKS, h66, h67, h71, ?_, List.nodup_nil, 0, fun e he => by cases he⟩
  · rw [a6 y (by rw [h65]; exact hy') z hz]
    exact hST0.2.2.1 y hy' z hz
  · show lnk s [] (tA s 70 (cnt s0 65))
    rw [h70]; rfl
end
section
variable {χ : Nat → Int32} {n t r : Nat} {Oa Ou : Nat → Prop} {O : Nat}
variable {f0 p0 f1 p1 p f : Nat} {vo0 vo : Nat → Nat} {Op : Nat → Prop} {E m kd H D a0 N : Nat} {c0 c1 c : cS} {s0 s1 s : tS} {k : Int32}
/-- the asking is closed -/
theorem ask_fin {L : List cE} (hH : 2 ≤ H) (hkd : (kd = 25 ∧ k = 0) ∨ (kd = 26 ∧ k = 1)) (hz : (cLs c0 (r + 8)).length = cnt s0 35) (hp : p0 ≤ f) (hB : BS χ n t r f0 vo0 Op Oa Ou E 60 O c0 s0 N kd L p f vo c s) (hL : L = [] ∧ tA s 136 m = 0 ∨ ∃ a1 y W, L = [(a1, y, H, D, W)] ∧ cR c 2903 a0 = .ref a1)
    (h12 : cI c 1612 (lid c (r + 8) (cnt s0 64)) = 1) (h29 : cCl c a0 = 29) (h01 : cI c 2901 a0 = k) (h00 : cI c 2900 a0 = Int32.ofNat m) (hl : nthD .null (cLs c (r + 11)) m = .ref a0) (h68 : tA s 68 N = Int32.ofNat m) (hm : m < 24) (hm48 : m < cnt s 48) :
    PX χ n t r f0 p0 vo0 Op Oa Ou E O c0 s0 H D (some (.inl (some (eR (.ref a0))), c)) (some (.inl (some (eI (Int32.ofNat N))), s)) := by
  have hK42 : kd ≤ 42 := by omega
  obtain ⟨r1, r2, r3, r4, r5⟩ := BS_root hB hK42
  have hN9 : N < 900 := by have := hB.1.2.2.2.1.2.1.2.2.2.2.1.2; omega
  have c68 := ca_of h68 (by omega)
  have haL := RSt_aL hB.1.2.2.2.1.1
  have w12 : ca s 67 N = cnt s0 64 := r3
  have hR' : RP χ n t r p f vo Op Oa Ou (E + (60 + sW L)) O c s := by
    rw [← Nat.add_assoc]
    exact P_close25 hB.1 (by rw [r5]; omega) w12 h12
  have hkd' : (ca s 66 N = 25 ∧ cI c 2901 a0 = 0) ∨ (ca s 66 N = 26 ∧ cI c 2901 a0 = 1) := by
    rw [r5, h01]; exact hkd
  obtain ⟨g0, hg0⟩ := hB.2.2.2.2.2.2.2.2.2.2.2
  have hu0 : cnt s0 64 < cnt s 35 := by
    have := hB.1.2.2.2.1.2.2.2.2.2.2.2.1.1.2.1
    rw [hB.2.2.2.2.2.1.2.2.2.2] at this; exact this
  right
  refine ⟨a0, N, c, s, p, f, rfl, rfl, BS_fin (g := g0 + 1) hz hp hB hR' (KC_refl r c) hB.2.1.2.2.2.1 hB.2.1.2.2.2.2.1 hB.2.1.2.2.2.2.2.2 ?_⟩
  refine Or.inr ⟨r1, r2, r3, r4, by omega, by omega, ?_⟩
  refine Or.inr (Or.inr (Or.inr (Or.inr (Or.inr (Or.inr (Or.inr (Or.inr (Or.inr (Or.inr (Or.inr (Or.inr (Or.inr ⟨h29, hkd', hH, aok_of h68 (by omega) (by omega), by rw [c68]; exact hm48, ⟨by rw [h00, h68], haL, by rw [c68]; exact hl⟩, ?_⟩))))))))))))
  rcases hL with ⟨e, h136⟩ | ⟨a1, y, W, e, h2903⟩
  · left
    rw [c68]
    refine ⟨h136, ?_⟩
    have hk := hB.2.2.2.2.2.2.2.2.2.1
    rw [e] at hk
    exact hk
  · right
    have hch := L_chn (T := fun b y W => (cnt s0 65 ≤ y ∧ y < cnt s 65 ∧ y ≠ N) ∧ TR g0 (fun q => cnt s0 65 ≤ q ∧ q < cnt s 65 ∧ q ≠ N) r c s (cnt s0 64) H D b y W) _ _ hB.2.2.2.2.2.2.2.2.2.1 (fun e' he => by
      obtain ⟨w1, w2, w3, w4, w5⟩ := hg0 e' he
      have e'' : e' = (a1, y, H, D, W) := by rw [e] at he; simpa using he
      refine ⟨⟨w1, w2, w3⟩, ?_⟩
      have q := TR_QQ (Q' := fun q => cnt s0 65 ≤ q ∧ q < cnt s 65 ∧ q ≠ N) (fun q hq b1 _ => ⟨hq.1, b1, hq.2.1⟩) _ _ _ _ _ _ w5
      rw [e''] at q ⊢
      exact q)
    rw [e] at hch
    refine ⟨a1, sW L, h2903, ?_, by omega⟩
    rw [e]; exact hch
end
