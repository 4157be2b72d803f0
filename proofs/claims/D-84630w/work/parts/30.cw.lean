/-! the component's heap: fields by their numbers (100 * class + place), arrays, lists, classes by tags -/
abbrev cS : Type := (Nat → Nat → Int32) × (Nat → Nat → Int64) × (Nat → Nat → Value) × (Nat → Nat → Int32) × (Nat → Nat → Int64) × (Nat → Nat → Value) × (Nat → List Value) × (Nat → Nat) × (Nat → Nat) × (Nat → Nat) × Nat × Nat
abbrev cRes : Type := mR cS
def cI (h : cS) (x a : Nat) : Int32 := h.1 x a
def cL (h : cS) (x a : Nat) : Int64 := h.2.1 x a
def cR (h : cS) (x a : Nat) : Value := h.2.2.1 x a
def cAI (h : cS) (a j : Nat) : Int32 := h.2.2.2.1 a j
def cAL (h : cS) (a j : Nat) : Int64 := h.2.2.2.2.1 a j
def cAR (h : cS) (a j : Nat) : Value := h.2.2.2.2.2.1 a j
def cLs (h : cS) (a : Nat) : List Value := h.2.2.2.2.2.2.1 a
def cCap (h : cS) (a : Nat) : Nat := h.2.2.2.2.2.2.2.1 a
def cLen (h : cS) (a : Nat) : Nat := h.2.2.2.2.2.2.2.2.1 a
def cCl (h : cS) (a : Nat) : Nat := h.2.2.2.2.2.2.2.2.2.1 a
def cNx (h : cS) : Nat := h.2.2.2.2.2.2.2.2.2.2.1
def cSl (h : cS) : Nat := h.2.2.2.2.2.2.2.2.2.2.2
def csI (h : cS) (x a : Nat) (n : Int32) : cS := (fun y b => if y = x ∧ b = a then n else h.1 y b, h.2)
def csL (h : cS) (x a : Nat) (n : Int64) : cS := (h.1, fun y b => if y = x ∧ b = a then n else h.2.1 y b, h.2.2)
def csR (h : cS) (x a : Nat) (n : Value) : cS := (h.1, h.2.1, fun y b => if y = x ∧ b = a then n else h.2.2.1 y b, h.2.2.2)
def csAI (h : cS) (a j : Nat) (n : Int32) : cS := (h.1, h.2.1, h.2.2.1, fun b i => if b = a ∧ i = j then n else h.2.2.2.1 b i, h.2.2.2.2)
def csAL (h : cS) (a j : Nat) (n : Int64) : cS := (h.1, h.2.1, h.2.2.1, h.2.2.2.1, fun b i => if b = a ∧ i = j then n else h.2.2.2.2.1 b i, h.2.2.2.2.2)
def csAR (h : cS) (a j : Nat) (n : Value) : cS := (h.1, h.2.1, h.2.2.1, h.2.2.2.1, h.2.2.2.2.1, fun b i => if b = a ∧ i = j then n else h.2.2.2.2.2.1 b i, h.2.2.2.2.2.2)
def csLs (h : cS) (a : Nat) (l : List Value) : cS := (h.1, h.2.1, h.2.2.1, h.2.2.2.1, h.2.2.2.2.1, h.2.2.2.2.2.1, fun b => if b = a then l else h.2.2.2.2.2.2.1 b, h.2.2.2.2.2.2.2)
def csCap (h : cS) (a n : Nat) : cS := (h.1, h.2.1, h.2.2.1, h.2.2.2.1, h.2.2.2.2.1, h.2.2.2.2.2.1, h.2.2.2.2.2.2.1, fun b => if b = a then n else h.2.2.2.2.2.2.2.1 b, h.2.2.2.2.2.2.2.2)
def csLen (h : cS) (a n : Nat) : cS := (h.1, h.2.1, h.2.2.1, h.2.2.2.1, h.2.2.2.2.1, h.2.2.2.2.2.1, h.2.2.2.2.2.2.1, h.2.2.2.2.2.2.2.1, fun b => if b = a then n else h.2.2.2.2.2.2.2.2.1 b, h.2.2.2.2.2.2.2.2.2)
def csCl (h : cS) (a t : Nat) : cS := (h.1, h.2.1, h.2.2.1, h.2.2.2.1, h.2.2.2.2.1, h.2.2.2.2.2.1, h.2.2.2.2.2.2.1, h.2.2.2.2.2.2.2.1, h.2.2.2.2.2.2.2.2.1, fun b => if b = a then t else h.2.2.2.2.2.2.2.2.2.1 b, h.2.2.2.2.2.2.2.2.2.2)
/-- a cell more, of so many slots -/
def cmore (h : cS) (n : Nat) : cS := (h.1, h.2.1, h.2.2.1, h.2.2.2.1, h.2.2.2.2.1, h.2.2.2.2.2.1, h.2.2.2.2.2.2.1, h.2.2.2.2.2.2.2.1, h.2.2.2.2.2.2.2.2.1, h.2.2.2.2.2.2.2.2.2.1, cNx h + 1, cSl h + n)
/-- a content of a whole array -/
def cfAI (h : cS) (a : Nat) (f : Nat → Int32) : cS := (h.1, h.2.1, h.2.2.1, fun b => if b = a then f else h.2.2.2.1 b, h.2.2.2.2)
def cfAL (h : cS) (a : Nat) (f : Nat → Int64) : cS := (h.1, h.2.1, h.2.2.1, h.2.2.2.1, fun b => if b = a then f else h.2.2.2.2.1 b, h.2.2.2.2.2)
/-- how many slots an object of a tag has -/
def csz : Nat → Nat
  | 1 => 9
  | 2 => 24
  | 3 => 6
  | 4 => 5
  | 5 => 6
  | 6 => 3
  | 8 => 7
  | 9 => 9
  | 10 => 12
  | 11 => 8
  | 12 => 2
  | 13 => 2
  | 14 => 2
  | 15 => 8
  | 16 => 21
  | 17 => 4
  | 19 => 3
  | 20 => 3
  | 21 => 3
  | 23 => 1
  | 24 => 2
  | 25 => 2
  | 26 => 1
  | 27 => 1
  | 28 => 0
  | 29 => 4
  | 30 => 4
  | 31 => 3
  | 32 => 2
  | 33 => 3
  | 34 => 2
  | 35 => 5
  | 36 => 5
  | 37 => 16
  | 41 => 6
  | 42 => 6
  | _ => 3
/-- what a tag is: arrays of bytes 1, ints 2, longs 3, units 4, modules 5, threads 6, strings 7; a list 9 -/
def cak : Nat → Nat
  | 5100 => 1
  | 5206 => 6
  | 5212 => 2
  | 5213 => 2
  | 5214 => 2
  | 5215 => 2
  | 5216 => 2
  | 5223 => 3
  | 5300 => 2
  | 5301 => 2
  | 5302 => 2
  | 5304 => 2
  | 5400 => 4
  | 5401 => 2
  | 5402 => 2
  | 5500 => 5
  | 5501 => 4
  | 5502 => 2
  | 5503 => 3
  | 5601 => 3
  | 5805 => 9
  | 5890 => 9
  | 5891 => 9
  | 5900 => 9
  | 5901 => 9
  | 5902 => 9
  | 5903 => 9
  | 5904 => 9
  | 5905 => 9
  | 5906 => 9
  | 5907 => 9
  | 6009 => 3
  | 6010 => 7
  | 6011 => 3
  | 6200 => 3
  | 6301 => 9
  | 6505 => 9
  | 6507 => 9
  | 6605 => 9
  | 6614 => 9
  | 6617 => 9
  | 7300 => 9
  | 8503 => 1
  | 8602 => 2
  | 8700 => 3
  | 8702 => 4
  | 8703 => 2
  | 8704 => 2
  | 8705 => 2
  | 8708 => 2
  | 8709 => 2
  | 8710 => 2
  | _ => 0
def cpart : Nat → Bool
  | 19 => true
  | 20 => true
  | 21 => true
  | 24 => true
  | 25 => true
  | 26 => true
  | 27 => true
  | 28 => true
  | 29 => true
  | 30 => true
  | 31 => true
  | 32 => true
  | 33 => true
  | _ => false
def misR (v : Value) : Bool := match v with
  | .null => true
  | .ref _ => true
  | _ => false
def meq {X : Type} (a b : Value) (t f : mR X) : mR X := if misR a = true ∧ misR b = true then (if a = b then t else f) else none
def i_qeq {X : Type} (t nx : Nat) : mIns X := fun ls st h k => match st with
  | .inr (.inr b) :: .inr (.inr a) :: r => meq a b (k t ls r h) (k nx ls r h)
  | _ => none
def i_qne {X : Type} (t nx : Nat) : mIns X := fun ls st h k => match st with
  | .inr (.inr b) :: .inr (.inr a) :: r => meq a b (k nx ls r h) (k t ls r h)
  | _ => none
def cisO (t : Nat) : Bool := Nat.ble 1 t && Nat.ble t 42
/-- what is thrown is an object -/
def cthr (h : cS) (v : Value) : cRes := match v with
  | .ref a => if cisO (cCl h a) = true then some (.inr (.ref a), h) else none
  | _ => none
def i_thq : mIns cS := fun _ st h _ => match st with
  | .inr (.inr v) :: _ => cthr h v
  | _ => none
theorem l_thq : mTail i_thq := by
  intro ls st h
  rcases st with _ | ⟨(a | (a | a)), r⟩ <;> exact mTl_r _
/-- an object of that class -/
def cck (h : cS) (v : Value) (c : Nat) (r : cRes) : cRes := match v with
  | .ref a => if cCl h a = c then r else none
  | _ => none
def cgI (h : cS) (x : Nat) (v : Value) (K : Int32 → cRes) : cRes := match v with
  | .ref a => if cCl h a = x / 100 then K (cI h x a) else none
  | _ => none
def cgL (h : cS) (x : Nat) (v : Value) (K : Int64 → cRes) : cRes := match v with
  | .ref a => if cCl h a = x / 100 then K (cL h x a) else none
  | _ => none
def cgR (h : cS) (x : Nat) (v : Value) (K : Value → cRes) : cRes := match v with
  | .ref a => if cCl h a = x / 100 then K (cR h x a) else none
  | _ => none
def cpI (h : cS) (x : Nat) (v : Value) (n : Int32) (K : cS → cRes) : cRes := match v with
  | .ref a => if cCl h a = x / 100 then K (csI h x a n) else none
  | _ => none
def cpZ (h : cS) (x : Nat) (v : Value) (n : Int32) (K : cS → cRes) : cRes := match v with
  | .ref a => if cCl h a = x / 100 ∧ (n = 0 ∨ n = 1) then K (csI h x a n) else none
  | _ => none
def cpL (h : cS) (x : Nat) (v : Value) (n : Int64) (K : cS → cRes) : cRes := match v with
  | .ref a => if cCl h a = x / 100 then K (csL h x a n) else none
  | _ => none
def cpR (h : cS) (x : Nat) (v : Value) (w : Value) (K : cS → cRes) : cRes := match v with
  | .ref a => if cCl h a = x / 100 ∧ misR w = true then K (csR h x a w) else none
  | _ => none
def caI (h : cS) (v : Value) (j : Int32) (K : Int32 → cRes) : cRes := match v with
  | .ref a => if cak (cCl h a) = 2 ∧ ¬ (j < 0 ∨ cLen h a ≤ j.toNatClampNeg) then K (cAI h a j.toNatClampNeg) else none
  | _ => none
def caB (h : cS) (v : Value) (j : Int32) (K : Int32 → cRes) : cRes := match v with
  | .ref a => if cak (cCl h a) = 1 ∧ ¬ (j < 0 ∨ cLen h a ≤ j.toNatClampNeg) then K (cAI h a j.toNatClampNeg) else none
  | _ => none
def caL (h : cS) (v : Value) (j : Int32) (K : Int64 → cRes) : cRes := match v with
  | .ref a => if cak (cCl h a) = 3 ∧ ¬ (j < 0 ∨ cLen h a ≤ j.toNatClampNeg) then K (cAL h a j.toNatClampNeg) else none
  | _ => none
def caR (h : cS) (v : Value) (j : Int32) (K : Value → cRes) : cRes := match v with
  | .ref a => if 4 ≤ cak (cCl h a) ∧ cak (cCl h a) ≤ 7 ∧ ¬ (j < 0 ∨ cLen h a ≤ j.toNatClampNeg) then K (cAR h a j.toNatClampNeg) else none
  | _ => none
def csaI (h : cS) (v : Value) (j : Int32) (n : Int32) (K : cS → cRes) : cRes := match v with
  | .ref a => if cak (cCl h a) = 2 ∧ ¬ (j < 0 ∨ cLen h a ≤ j.toNatClampNeg) then K (csAI h a j.toNatClampNeg n) else none
  | _ => none
def csaB (h : cS) (v : Value) (j : Int32) (n : Int32) (K : cS → cRes) : cRes := match v with
  | .ref a => if cak (cCl h a) = 1 ∧ ¬ (j < 0 ∨ cLen h a ≤ j.toNatClampNeg) then K (csAI h a j.toNatClampNeg n.toInt8.toInt32) else none
  | _ => none
def csaL (h : cS) (v : Value) (j : Int32) (n : Int64) (K : cS → cRes) : cRes := match v with
  | .ref a => if cak (cCl h a) = 3 ∧ ¬ (j < 0 ∨ cLen h a ≤ j.toNatClampNeg) then K (csAL h a j.toNatClampNeg n) else none
  | _ => none
/-- what may lie in an array of references -/
def ceok (h : cS) (k : Nat) (w : Value) : Bool := match w with
  | .null => true
  | .ref b => match k with
    | 4 => Nat.beq (cCl h b) 16
    | 5 => Nat.beq (cCl h b) 15
    | 6 => Nat.beq (cCl h b) 37
    | _ => false
  | .retAddr _ => Nat.beq k 7
  | _ => false
def csaR (h : cS) (v : Value) (j : Int32) (w : Value) (K : cS → cRes) : cRes := match v with
  | .ref a => if ceok h (cak (cCl h a)) w = true ∧ 4 ≤ cak (cCl h a) ∧ cak (cCl h a) ≤ 7 ∧ ¬ (j < 0 ∨ cLen h a ≤ j.toNatClampNeg) then K (csAR h a j.toNatClampNeg w) else none
  | _ => none
def clen (h : cS) (v : Value) (K : Int32 → cRes) : cRes := match v with
  | .ref a => if 1 ≤ cak (cCl h a) ∧ cak (cCl h a) ≤ 7 then K (Int32.ofNat (cLen h a)) else none
  | _ => none
def cnw (h : cS) (t : Nat) (K : Value → cS → cRes) : cRes := K (.ref (cNx h)) (cmore (csCl h (cNx h) t) (csz t))
def cna (h : cS) (t : Nat) (n : Int32) (K : Value → cS → cRes) : cRes := if n < 0 ∨ 1000000 < n then none else K (.ref (cNx h)) (cmore (csLen (csCl h (cNx h) t) (cNx h) n.toNatClampNeg) n.toNatClampNeg)
def ccast (h : cS) (k : Nat) (v : Value) (K : Value → cRes) : cRes := match v with
  | .null => K .null
  | .ref a => if cCl h a = k ∨ (k = 52 ∧ cpart (cCl h a) = true) then K (.ref a) else none
  | .float b => if k = 50 then K (.float b) else none
  | .double b => if k = 51 then K (.double b) else none
  | _ => none
/-! calls with a handler for what the texts' faults are -/
section
variable {X : Type}
def hbI (r : mR X) (E : Value → X → mR X) (K : Int32 → X → mR X) : mR X := match r with
  | some (.inl (some (.inl n)), h) => K n h
  | some (.inr v, h) => E v h
  | _ => none
def hbL (r : mR X) (E : Value → X → mR X) (K : Int64 → X → mR X) : mR X := match r with
  | some (.inl (some (.inr (.inl n))), h) => K n h
  | some (.inr v, h) => E v h
  | _ => none
def hbR (r : mR X) (E : Value → X → mR X) (K : Value → X → mR X) : mR X := match r with
  | some (.inl (some (.inr (.inr n))), h) => K n h
  | some (.inr v, h) => E v h
  | _ => none
def hbV (r : mR X) (E : Value → X → mR X) (K : X → mR X) : mR X := match r with
  | some (.inl none, h) => K h
  | some (.inr v, h) => E v h
  | _ => none
def i_hI (cf : mCF cS) (m n nx t : Nat) : mIns cS := fun ls st h k => match mpopN n [] st with
  | some (as, r) => cond (Nat.ble (mcat r) 8) (hbI (cf m as h) (fun v h => cck h v 11 (k t ls [.inr (.inr v)] h)) (fun v h => k nx ls (.inl v :: r) h)) none
  | none => none
theorem l_hI {cf : mCF cS} {m n nx t : Nat} : mTail (i_hI cf m n nx t) := by
  intro ls st h
  unfold i_hI
  rcases mpopN n [] st with _ | ⟨as, r⟩
  · exact mTl_r none
  · dsimp only
    cases Nat.ble (mcat r) 8
    · exact mTl_r none
    rcases cf m as h with _ | ⟨((_ | (a | (a | a))) | a), h'⟩ <;> first | exact mTl_k _ _ _ _ | exact mTl_r _ | (rcases a with _ | _ | _ | _ | _ | b | _ <;> first | exact mTl_r none | exact mTl_ite (c := cCl h' b = 11) (mTl_k _ _ _ _) (mTl_r none))
def i_hL (cf : mCF cS) (m n nx t : Nat) : mIns cS := fun ls st h k => match mpopN n [] st with
  | some (as, r) => cond (Nat.ble (mcat r) 8) (hbL (cf m as h) (fun v h => cck h v 11 (k t ls [.inr (.inr v)] h)) (fun v h => k nx ls (.inr (.inl v) :: r) h)) none
  | none => none
theorem l_hL {cf : mCF cS} {m n nx t : Nat} : mTail (i_hL cf m n nx t) := by
  intro ls st h
  unfold i_hL
  rcases mpopN n [] st with _ | ⟨as, r⟩
  · exact mTl_r none
  · dsimp only
    cases Nat.ble (mcat r) 8
    · exact mTl_r none
    rcases cf m as h with _ | ⟨((_ | (a | (a | a))) | a), h'⟩ <;> first | exact mTl_k _ _ _ _ | exact mTl_r _ | (rcases a with _ | _ | _ | _ | _ | b | _ <;> first | exact mTl_r none | exact mTl_ite (c := cCl h' b = 11) (mTl_k _ _ _ _) (mTl_r none))
def i_hR (cf : mCF cS) (m n nx t : Nat) : mIns cS := fun ls st h k => match mpopN n [] st with
  | some (as, r) => cond (Nat.ble (mcat r) 8) (hbR (cf m as h) (fun v h => cck h v 11 (k t ls [.inr (.inr v)] h)) (fun v h => k nx ls (.inr (.inr v) :: r) h)) none
  | none => none
theorem l_hR {cf : mCF cS} {m n nx t : Nat} : mTail (i_hR cf m n nx t) := by
  intro ls st h
  unfold i_hR
  rcases mpopN n [] st with _ | ⟨as, r⟩
  · exact mTl_r none
  · dsimp only
    cases Nat.ble (mcat r) 8
    · exact mTl_r none
    rcases cf m as h with _ | ⟨((_ | (a | (a | a))) | a), h'⟩ <;> first | exact mTl_k _ _ _ _ | exact mTl_r _ | (rcases a with _ | _ | _ | _ | _ | b | _ <;> first | exact mTl_r none | exact mTl_ite (c := cCl h' b = 11) (mTl_k _ _ _ _) (mTl_r none))
def i_hV (cf : mCF cS) (m n nx t : Nat) : mIns cS := fun ls st h k => match mpopN n [] st with
  | some (as, r) => cond (Nat.ble (mcat r) 8) (hbV (cf m as h) (fun v h => cck h v 11 (k t ls [.inr (.inr v)] h)) (fun h => k nx ls (r) h)) none
  | none => none
theorem l_hV {cf : mCF cS} {m n nx t : Nat} : mTail (i_hV cf m n nx t) := by
  intro ls st h
  unfold i_hV
  rcases mpopN n [] st with _ | ⟨as, r⟩
  · exact mTl_r none
  · dsimp only
    cases Nat.ble (mcat r) 8
    · exact mTl_r none
    rcases cf m as h with _ | ⟨((_ | (a | (a | a))) | a), h'⟩ <;> first | exact mTl_k _ _ _ _ | exact mTl_r _ | (rcases a with _ | _ | _ | _ | _ | b | _ <;> first | exact mTl_r none | exact mTl_ite (c := cCl h' b = 11) (mTl_k _ _ _ _) (mTl_r none))
end
theorem l_qeq {X : Type} {t nx : Nat} : mTail (i_qeq t nx : mIns X) := by
  intro ls st h
  rcases st with _ | ⟨(b | (b | b)), _ | ⟨(a | (a | a)), r⟩⟩ <;> first | exact mTl_ite (c := misR a = true ∧ misR b = true) (mTl_ite (c := a = b) (mTl_k t ls r h) (mTl_k nx ls r h)) (mTl_r none) | exact mTl_r none
theorem l_qne {X : Type} {t nx : Nat} : mTail (i_qne t nx : mIns X) := by
  intro ls st h
  rcases st with _ | ⟨(b | (b | b)), _ | ⟨(a | (a | a)), r⟩⟩ <;> first | exact mTl_ite (c := misR a = true ∧ misR b = true) (mTl_ite (c := a = b) (mTl_k nx ls r h) (mTl_k t ls r h)) (mTl_r none) | exact mTl_r none
def g_cI (x : Nat) : Value → cS → (mE → cRes) → cRes := fun v h K => cgI h x v (fun n => K (eI n))
def g_cL (x : Nat) : Value → cS → (mE → cRes) → cRes := fun v h K => cgL h x v (fun n => K (eL n))
def g_cR (x : Nat) : Value → cS → (mE → cRes) → cRes := fun v h K => cgR h x v (fun n => K (eR n))
def g_cpI (x : Nat) : Value → mE → cS → (cS → cRes) → cRes := fun v e h K => match e with
  | .inl n => cpI h x v n K
  | _ => none
def g_cpZ (x : Nat) : Value → mE → cS → (cS → cRes) → cRes := fun v e h K => match e with
  | .inl n => cpZ h x v n K
  | _ => none
def g_cpL (x : Nat) : Value → mE → cS → (cS → cRes) → cRes := fun v e h K => match e with
  | .inr (.inl n) => cpL h x v n K
  | _ => none
def g_cpR (x : Nat) : Value → mE → cS → (cS → cRes) → cRes := fun v e h K => match e with
  | .inr (.inr n) => cpR h x v n K
  | _ => none
def g_caI : Value → Int32 → cS → (mE → cRes) → cRes := fun v j h K => caI h v j (fun n => K (eI n))
def g_caB : Value → Int32 → cS → (mE → cRes) → cRes := fun v j h K => caB h v j (fun n => K (eI n))
def g_caL : Value → Int32 → cS → (mE → cRes) → cRes := fun v j h K => caL h v j (fun n => K (eL n))
def g_caR : Value → Int32 → cS → (mE → cRes) → cRes := fun v j h K => caR h v j (fun n => K (eR n))
def g_csaI : Value → Int32 → mE → cS → (cS → cRes) → cRes := fun v j e h K => match e with
  | .inl n => csaI h v j n K
  | _ => none
def g_csaB : Value → Int32 → mE → cS → (cS → cRes) → cRes := fun v j e h K => match e with
  | .inl n => csaB h v j n K
  | _ => none
def g_csaL : Value → Int32 → mE → cS → (cS → cRes) → cRes := fun v j e h K => match e with
  | .inr (.inl n) => csaL h v j n K
  | _ => none
def g_csaR : Value → Int32 → mE → cS → (cS → cRes) → cRes := fun v j e h K => match e with
  | .inr (.inr n) => csaR h v j n K
  | _ => none
def g_clen : Value → cS → (Int32 → cRes) → cRes := fun v h K => clen h v K
def g_cnw (t : Nat) : cS → (Value → cS → cRes) → cRes := fun h K => cnw h t K
def g_cna (t : Nat) : Int32 → cS → (Value → cS → cRes) → cRes := fun n h K => cna h t n K
def g_cast (k : Nat) : Value → cS → (mE → cRes) → cRes := fun v h K => ccast h k v (fun n => K (eR n))
theorem o_cI (x : Nat) : ∀ v h, mO1 (g_cI x v h) := by
  intro v h
  rcases v with _ | _ | _ | _ | _ | a | _ <;> first | exact mO1_ite (c := cCl h a = x / 100) (mO1_k _) mO1_n | exact mO1_n
theorem o_cL (x : Nat) : ∀ v h, mO1 (g_cL x v h) := by
  intro v h
  rcases v with _ | _ | _ | _ | _ | a | _ <;> first | exact mO1_ite (c := cCl h a = x / 100) (mO1_k _) mO1_n | exact mO1_n
theorem o_cR (x : Nat) : ∀ v h, mO1 (g_cR x v h) := by
  intro v h
  rcases v with _ | _ | _ | _ | _ | a | _ <;> first | exact mO1_ite (c := cCl h a = x / 100) (mO1_k _) mO1_n | exact mO1_n
theorem o_cpI (x : Nat) : ∀ v e h, mO1 (g_cpI x v e h) := by
  intro v e h
  rcases e with (n | (n | n)) <;> rcases v with _ | _ | _ | _ | _ | a | _ <;> first | exact mO1_ite (c := cCl h a = x / 100) (mO1_k _) mO1_n | exact mO1_n
theorem o_cpZ (x : Nat) : ∀ v e h, mO1 (g_cpZ x v e h) := by
  intro v e h
  rcases e with (n | (n | n)) <;> rcases v with _ | _ | _ | _ | _ | a | _ <;> first | exact mO1_ite (c := cCl h a = x / 100 ∧ (n = 0 ∨ n = 1)) (mO1_k _) mO1_n | exact mO1_n
theorem o_cpL (x : Nat) : ∀ v e h, mO1 (g_cpL x v e h) := by
  intro v e h
  rcases e with (n | (n | n)) <;> rcases v with _ | _ | _ | _ | _ | a | _ <;> first | exact mO1_ite (c := cCl h a = x / 100) (mO1_k _) mO1_n | exact mO1_n
theorem o_cpR (x : Nat) : ∀ v e h, mO1 (g_cpR x v e h) := by
  intro v e h
  rcases e with (n | (n | n)) <;> rcases v with _ | _ | _ | _ | _ | a | _ <;> first | exact mO1_ite (c := cCl h a = x / 100 ∧ misR n = true) (mO1_k _) mO1_n | exact mO1_n
theorem o_caI : ∀ v j h, mO1 (g_caI v j h) := by
  intro v j h
  rcases v with _ | _ | _ | _ | _ | a | _ <;> first | exact mO1_ite (c := cak (cCl h a) = 2 ∧ ¬ (j < 0 ∨ cLen h a ≤ j.toNatClampNeg)) (mO1_k _) mO1_n | exact mO1_n
theorem o_csaI : ∀ v j e h, mO1 (g_csaI v j e h) := by
  intro v j e h
  rcases e with (n | (n | n)) <;> rcases v with _ | _ | _ | _ | _ | a | _ <;> first | exact mO1_ite (c := cak (cCl h a) = 2 ∧ ¬ (j < 0 ∨ cLen h a ≤ j.toNatClampNeg)) (mO1_k _) mO1_n | exact mO1_n
theorem o_caB : ∀ v j h, mO1 (g_caB v j h) := by
  intro v j h
  rcases v with _ | _ | _ | _ | _ | a | _ <;> first | exact mO1_ite (c := cak (cCl h a) = 1 ∧ ¬ (j < 0 ∨ cLen h a ≤ j.toNatClampNeg)) (mO1_k _) mO1_n | exact mO1_n
theorem o_csaB : ∀ v j e h, mO1 (g_csaB v j e h) := by
  intro v j e h
  rcases e with (n | (n | n)) <;> rcases v with _ | _ | _ | _ | _ | a | _ <;> first | exact mO1_ite (c := cak (cCl h a) = 1 ∧ ¬ (j < 0 ∨ cLen h a ≤ j.toNatClampNeg)) (mO1_k _) mO1_n | exact mO1_n
theorem o_caL : ∀ v j h, mO1 (g_caL v j h) := by
  intro v j h
  rcases v with _ | _ | _ | _ | _ | a | _ <;> first | exact mO1_ite (c := cak (cCl h a) = 3 ∧ ¬ (j < 0 ∨ cLen h a ≤ j.toNatClampNeg)) (mO1_k _) mO1_n | exact mO1_n
theorem o_csaL : ∀ v j e h, mO1 (g_csaL v j e h) := by
  intro v j e h
  rcases e with (n | (n | n)) <;> rcases v with _ | _ | _ | _ | _ | a | _ <;> first | exact mO1_ite (c := cak (cCl h a) = 3 ∧ ¬ (j < 0 ∨ cLen h a ≤ j.toNatClampNeg)) (mO1_k _) mO1_n | exact mO1_n
theorem o_caR : ∀ v j h, mO1 (g_caR v j h) := by
  intro v j h
  rcases v with _ | _ | _ | _ | _ | a | _ <;> first | exact mO1_ite (c := 4 ≤ cak (cCl h a) ∧ cak (cCl h a) ≤ 7 ∧ ¬ (j < 0 ∨ cLen h a ≤ j.toNatClampNeg)) (mO1_k _) mO1_n | exact mO1_n
theorem o_csaR : ∀ v j e h, mO1 (g_csaR v j e h) := by
  intro v j e h
  rcases e with (n | (n | n)) <;> rcases v with _ | _ | _ | _ | _ | a | _ <;> first | exact mO1_ite (c := ceok h (cak (cCl h a)) n = true ∧ 4 ≤ cak (cCl h a) ∧ cak (cCl h a) ≤ 7 ∧ ¬ (j < 0 ∨ cLen h a ≤ j.toNatClampNeg)) (mO1_k _) mO1_n | exact mO1_n
theorem o_clen : ∀ v h, mO1 (g_clen v h) := by
  intro v h
  rcases v with _ | _ | _ | _ | _ | a | _ <;> first | exact mO1_ite (c := 1 ≤ cak (cCl h a) ∧ cak (cCl h a) ≤ 7) (mO1_k _) mO1_n | exact mO1_n
theorem o_cnw (t : Nat) : ∀ h, mO2 (g_cnw t h) := fun h => Or.inl ⟨_, _, fun _ => rfl⟩
theorem o_cna (t : Nat) : ∀ n h, mO2 (g_cna t n h) := by
  intro n h
  by_cases q : n < 0 ∨ 1000000 < n
  · exact Or.inr (fun K => if_pos q)
  · exact Or.inl ⟨_, _, fun K => if_neg q⟩
theorem o_cast (k : Nat) : ∀ v h, mO1 (g_cast k v h) := by
  intro v h
  rcases v with _ | _ | b | b | _ | a | _ <;> first | exact mO1_ite (c := cCl h a = k ∨ (k = 52 ∧ cpart (cCl h a) = true)) (mO1_k _) mO1_n | exact mO1_ite (c := k = 50) (mO1_k _) mO1_n | exact mO1_ite (c := k = 51) (mO1_k _) mO1_n | exact mO1_k _ | exact mO1_n
/-! the JDK's members, as laws of lists, boxes, texts -/
def cStrs : List (List Nat) := [[103, 114, 97, 110, 116], [109, 111, 100, 117, 108, 101], [102, 105, 101, 108, 100], [108, 101, 116], [105, 110], [105, 102], [116, 104, 101, 110], [101, 108, 115, 101], [116, 114, 121], [99, 97, 116, 99, 104], [112, 114, 105, 118], [117, 110, 100, 101, 114], [102, 117, 110], [110, 101, 119], [110, 111, 110, 101], [115, 101, 108, 102], [99, 116, 120], [99, 104, 101, 99, 107], [97, 98, 108, 101], [111, 117, 116], [115, 112, 97, 119, 110], [119, 97, 105, 116], [102, 97, 105, 108], [123, 125, 40, 41, 91, 93, 44, 59, 58, 61, 46, 43, 45, 42, 60]]
def cgrow (n : Nat) : Nat := if n = 0 then 10 else n + (if n / 2 = 0 then 1 else n / 2)
def cisL (h : cS) (a : Nat) : Bool := Nat.beq (cak (cCl h a)) 9
def cret (e : mE) (h : cS) : cRes := some (.inl (some e), h)
def clsz (h : cS) (a : Nat) : cRes := if cisL h a = true then cret (eI (Int32.ofNat (cLs h a).length)) h else none
def clget (h : cS) (a : Nat) (k : Int32) : cRes := if cisL h a = true ∧ ¬ (k < 0 ∨ (cLs h a).length ≤ k.toNatClampNeg) then cret (eR (nthD .null (cLs h a) k.toNatClampNeg)) h else none
def cladd (h : cS) (a : Nat) (v : Value) : cRes := if cisL h a = true ∧ (cLs h a).length < 1000000 then
    (if (cLs h a).length < cCap h a then cret (eI 1) (csLs h a (cLs h a ++ [v])) else cret (eI 1) (cmore (csCap (csLs h a (cLs h a ++ [v])) a (cgrow (cCap h a))) (cgrow (cCap h a)))) else none
def clset (h : cS) (a : Nat) (k : Int32) (v : Value) : cRes := if cisL h a = true ∧ ¬ (k < 0 ∨ (cLs h a).length ≤ k.toNatClampNeg) then cret (eR (nthD .null (cLs h a) k.toNatClampNeg)) (csLs h a ((cLs h a).set k.toNatClampNeg v)) else none
def clrem (h : cS) (a : Nat) (k : Int32) : cRes := if cisL h a = true ∧ ¬ (k < 0 ∨ (cLs h a).length ≤ k.toNatClampNeg) then cret (eR (nthD .null (cLs h a) k.toNatClampNeg)) (csLs h a ((cLs h a).eraseIdx k.toNatClampNeg)) else none
def clclr (h : cS) (a : Nat) : cRes := if cisL h a = true then some (.inl none, csLs h a []) else none
def clini (h : cS) (a : Nat) (n : Int32) : cRes := if cak (cCl h a - 5000) = 9 ∧ 0 < n ∧ n < 1000 then some (.inl none, cmore (csCap (csCl h a (cCl h a - 5000)) a n.toNatClampNeg) n.toNatClampNeg) else none
def clini0 (h : cS) (a : Nat) : cRes := if cak (cCl h a - 5000) = 9 then some (.inl none, csCl h a (cCl h a - 5000)) else none
def cboxI (h : cS) (n : Int32) : cRes := if -128 ≤ n ∧ n ≤ 127 then cret (eR (.float n.toUInt32)) h else cret (eR (.float n.toUInt32)) (cmore h 1)
def cboxL (h : cS) (n : Int64) : cRes := if -128 ≤ n ∧ n ≤ 127 then cret (eR (.double n.toUInt64)) h else cret (eR (.double n.toUInt64)) (cmore h 1)
def ccpyI (h : cS) (k a : Nat) (n : Int32) : cRes := if cak (cCl h a) = k ∧ ¬ (n < 0 ∨ 1000000 < n) then cret (eR (.ref (cNx h))) (cfAI (cmore (csLen (csCl h (cNx h) (cCl h a)) (cNx h) n.toNatClampNeg) n.toNatClampNeg) (cNx h) (fun j => if j < n.toNatClampNeg ∧ j < cLen h a then cAI h a j else 0)) else none
def ccpyL (h : cS) (a : Nat) (n : Int32) : cRes := if cak (cCl h a) = 3 ∧ ¬ (n < 0 ∨ 1000000 < n) then cret (eR (.ref (cNx h))) (cfAL (cmore (csLen (csCl h (cNx h) (cCl h a)) (cNx h) n.toNatClampNeg) n.toNatClampNeg) (cNx h) (fun j => if j < n.toNatClampNeg ∧ j < cLen h a then cAL h a j else 0)) else none
def cchr (h : cS) (s : Nat) (k : Int32) : cRes := if k < 0 ∨ (nthD [] cStrs s).length ≤ k.toNatClampNeg then none else cret (eI (Int32.ofNat (nthD 0 (nthD [] cStrs s) k.toNatClampNeg))) h
def cPrim (m : Nat) (as : List mE) (h : cS) : cRes := match m, as with
  | 9101, [.inr (.inr (.ref a)), .inl n] => clini h a n
  | 9102, [.inr (.inr (.ref a))] => clini0 h a
  | 9103, [.inr (.inr (.ref a))] => clsz h a
  | 9104, [.inr (.inr (.ref a)), .inl k] => clget h a k
  | 9105, [.inr (.inr (.ref a)), .inr (.inr v)] => cladd h a v
  | 9106, [.inr (.inr (.ref a)), .inl k, .inr (.inr v)] => clset h a k v
  | 9107, [.inr (.inr (.ref a)), .inl k] => clrem h a k
  | 9108, [.inr (.inr (.ref a))] => clclr h a
  | 9110, [.inl n] => cboxI h n
  | 9111, [.inr (.inr (.float b))] => cret (eI b.toInt32) h
  | 9112, [.inr (.inl n)] => cboxL h n
  | 9113, [.inr (.inr (.double b))] => cret (eL b.toInt64) h
  | 9120, [.inr (.inr (.ref a)), .inl n] => ccpyI h 1 a n
  | 9121, [.inr (.inr (.ref a)), .inl n] => ccpyI h 2 a n
  | 9122, [.inr (.inr (.ref a)), .inl n] => ccpyL h a n
  | 9000, [.inr (.inr (.retAddr s))] => cret (eI (Int32.ofNat (nthD [] cStrs s).length)) h
  | 9001, [.inr (.inr (.retAddr s)), .inl k] => cchr h s k
  | 9003, [.inr (.inr (.retAddr s)), .inl c] => cret (eI (tFind c.toNatClampNeg (nthD [] cStrs s) 0)) h
  | 9130, [.inr (.inr (.ref a)), .inr (.inr .null), .inr (.inr .null), .inl 0, .inl 0] => if cCl h a = 11 then some (.inl none, h) else none
  | 9131, [.inr (.inr (.ref a))] => if cCl h a = 41 then some (.inl none, h) else none
  | 9132, [.inr (.inr (.ref a))] => if cCl h a = 42 then some (.inl none, h) else none
  | 9140, [.inr (.inr (.ref a))] => if cCl h a = 0 then none else some (.inl none, h)
  | _, _ => none
