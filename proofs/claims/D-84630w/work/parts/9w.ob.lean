set_option maxRecDepth 100000
set_option maxHeartbeats 4000000
/-! D72: arguments' lists: begun, added to at a node -/
section
variable {χ : Nat → Int32} {n t r p f : Nat} {vo : Nat → Nat} {Op Oa Ou : Nat → Prop} {E O : Nat} {c c' : cS} {s : tS} {L : Nat} {l : List Value}
theorem raw_list1 {c : cS} {L : Nat} {l : List Value} (h : raw c (L, l)) (e : cCl c L = 5891) : cLs c L = l ∧ unr c L := by
  rcases h with q | ⟨_, q⟩
  · unfold raw0 at q
    rw [e] at q
    rcases q with ⟨q, _⟩ | ⟨q, _⟩ | ⟨q, _⟩ | ⟨q, _⟩ <;> cases q
  · exact q
/-- an empty list of arguments -/
theorem own_new1 (d : Nat) (hR : RP χ n t r p f vo Op Oa Ou E O c s) : cC (d + 9) 9101 [eR (.ref (cNx c)), eI 2] (nwC c 10891) = some (.inl none, nlC c 5891 2) ∧ RP χ n t r p f vo Op Oa Ou E O (nlC c 5891 2) s ∧ KC r c (nlC c 5891 2) ∧ (∀ b, raw c b → raw (nlC c 5891 2) b) ∧ cCl (nlC c 5891 2) (cNx c) = 5891 ∧ cLs (nlC c 5891 2) (cNx c) = [] ∧ unr (nlC c 5891 2) (cNx c) ∧ cNx (nlC c 5891 2) = cNx c + 2 ∧ cSl (nlC c 5891 2) = cSl c + 5 := by
  have hn := hR.2.2.1
  have hS := hR.2.2.2.1.1
  have h0 := hn _ (Nat.le_refl _)
  have e1 := c_nl (c := c) d (k := 5891) (m := 2) rfl (by decide) (by decide)
  have hfr : FR c (nlC c 5891 2) := FR_nl h0.1 (FR_refl c)
  have hnf : NF c (nlC c 5891 2) := NF_nl (by decide) (NF_refl c)
  have hcl : CLN (nlC c 5891 2) := cC_cln e1 (P_new 10891 hR).2.2.1
  refine ⟨e1, RP_FR hfr hnf hcl hR, FR_kc hfr hnf hS, FR_raw hfr hnf, nl_cl c 5891 2, h0.2.2.2.1, fun o => ?_, rfl, by show cSl c + csz 10891 + 2 = _; rw [show csz 10891 = 3 from rfl]⟩
  have hb := RSt_bd hS
  have key : ∀ x, bdx (cCl (nlC c 5891 2) o) x → cR (nlC c 5891 2) x o ≠ .ref (cNx c) := fun x hk z => by
    by_cases q : o = cNx c
    · rw [q, nl_cl] at hk; unfold bdx at hk; omega
    · rw [nl_old q] at hk
      exact hb o x _ hk z h0.1
  exact ⟨fun w => key 2700 (Or.inl ⟨w, rfl⟩), fun w _ => key 3003 (Or.inr (Or.inl ⟨w, rfl⟩)), fun w => key 3201 (Or.inr (Or.inr ⟨w, rfl⟩))⟩
section
variable {f0 p0 : Nat} {vo0 : Nat → Nat} {X N K : Nat} {Ls : List cE} {c0 : cS} {s0 : tS}
/-- an own list of arguments is added to at a node under way -/
theorem BS_own1 (d : Nat) (hz : (cLs c0 (r + 8)).length = cnt s0 35) (hB : BS χ n t r f0 vo0 Op Oa Ou E X O c0 s0 N K Ls p f vo c s) (e : cCl c L = 5891) (hu : unr c L) (hl : (cLs c L).length < 1000000) (h0 : cCl c0 L = 0) (v : Value)
    (h1 : cNx c + 1 + 300 * (n - f) ≤ cNx c0 + 300 * (n - f0)) (h2 : cSl c + 10 + 2 * (cLs c L).length + 2000 * (n - f) ≤ cSl c0 + 2000 * (n - f0)) :
    ∃ c', cC (d + 9) 9105 [eR (.ref L), eR v] c = some (.inl (some (eI 1)), c') ∧ BS χ n t r f0 vo0 Op Oa Ou E X O c0 s0 N K Ls p f vo c' s ∧ KC r c c' ∧ cCl c' L = 5891 ∧ cLs c' L = cLs c L ++ [v] ∧ unr c' L ∧ cNx c' ≤ cNx c + 1 ∧ cSl c' ≤ cSl c + 10 + 2 * (cLs c L).length := by
  obtain ⟨c', e1, hLA⟩ := c_add d e rfl hl v
  have hcl := cC_cln e1 hB.1.2.2.1
  have hKC := own_kc hLA (Or.inr e) hu hB.1.2.2.2.1.1
  have r1 := hLA.1.2.1
  have r2 := hLA.1.2.2.2
  exact ⟨c', e1, BS_go hz hB (RP_own1 hLA e hu hcl hB.1) hKC (KT_refl s) (fun _ _ => rfl) (fun _ _ _ _ _ => rfl) (TH_refl _ _ _ _ s0) hB.2.2.2.2.2.1 (by omega) (by omega) hB.2.1.2.2.2.2.2.1 (fun b q => own_raw hLA (by rintro rfl; exact raw_cl0 q h0) (hB.2.1.2.2.2.2.2.2 b q)), hKC, by rw [hLA.2.1.2.2.2.2.2.1]; exact e, hLA.2.2.1, own_unr hLA hu, r1, r2⟩
end
end
