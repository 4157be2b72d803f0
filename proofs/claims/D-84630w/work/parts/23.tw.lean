/-! the reference's state: its int fields, its long fields, its arrays of ints (bytes, truth values), its arrays of longs, by the fields' places in TX7 -/
abbrev tS : Type := (Nat → Int32) × ((Nat → Int64) × ((Nat → Nat → Int32) × (Nat → Nat → Int64)))
def tI (h : tS) (x : Nat) : Int32 := h.1 x
def tL (h : tS) (x : Nat) : Int64 := h.2.1 x
def tA (h : tS) (x j : Nat) : Int32 := h.2.2.1 x j
def tB (h : tS) (x j : Nat) : Int64 := h.2.2.2 x j
def tsI (h : tS) (x : Nat) (n : Int32) : tS := (fun y => if y = x then n else h.1 y, h.2)
def tsL (h : tS) (x : Nat) (n : Int64) : tS := (h.1, fun y => if y = x then n else h.2.1 y, h.2.2)
def tsA (h : tS) (x j : Nat) (n : Int32) : tS := (h.1, h.2.1, fun y i => if y = x ∧ i = j then n else h.2.2.1 y i, h.2.2.2)
def tsB (h : tS) (x j : Nat) (n : Int64) : tS := (h.1, h.2.1, h.2.2.1, fun y i => if y = x ∧ i = j then n else h.2.2.2 y i)
/-- the arrays' lengths -/
def tlen : Nat → Nat
  | 1 => 3000
  | 3 => 3000
  | 13 => 6
  | 17 => 1330
  | 18 => 266
  | 19 => 266
  | 23 => 20
  | 24 => 160
  | 26 => 8
  | 27 => 8
  | 28 => 8
  | 29 => 32
  | 30 => 8
  | 31 => 96
  | 32 => 8
  | 33 => 8
  | 36 => 60
  | 37 => 60
  | 38 => 60
  | 39 => 60
  | 40 => 60
  | 41 => 60
  | 42 => 60
  | 43 => 60
  | 44 => 60
  | 45 => 960
  | 46 => 60
  | 47 => 60
  | 49 => 24
  | 51 => 500
  | 52 => 500
  | 53 => 500
  | 54 => 500
  | 55 => 60
  | 57 => 20
  | 59 => 400
  | 61 => 400
  | 66 => 900
  | 67 => 900
  | 68 => 900
  | 69 => 900
  | 70 => 900
  | 71 => 900
  | 72 => 900
  | 74 => 80000
  | 76 => 120
  | 77 => 120
  | 80 => 9
  | 83 => 60
  | 92 => 1000
  | 96 => 2000
  | 97 => 2000
  | 99 => 66000
  | 100 => 66000
  | 102 => 4001
  | 103 => 4001
  | 104 => 4001
  | 106 => 8
  | 107 => 8
  | 108 => 8
  | 109 => 8
  | 110 => 8
  | 111 => 8
  | 112 => 480
  | 113 => 480
  | 114 => 480
  | 115 => 480
  | 116 => 480
  | 117 => 8
  | 118 => 100800
  | 119 => 100800
  | 120 => 8
  | 121 => 72000
  | 122 => 72000
  | 123 => 8
  | 124 => 12000
  | 125 => 12000
  | 126 => 12000
  | 131 => 4002
  | 132 => 64032
  | 133 => 40
  | 136 => 24
  | _ => 0
/-- the array fields, and their kinds: ints 0, longs 1, bytes 2, truth values 3 -/
def tArr : List Nat := [1, 3, 13, 17, 18, 19, 23, 24, 26, 27, 28, 29, 30, 31, 32, 33, 36, 37, 38, 39, 40, 41, 42, 43, 44, 45, 46, 47, 49, 51, 52, 53, 54, 55, 57, 59, 61, 66, 67, 68, 69, 70, 71, 72, 74, 76, 77, 80, 83, 92, 96, 97, 99, 100, 102, 103, 104, 106, 107, 108, 109, 110, 111, 112, 113, 114, 115, 116, 117, 118, 119, 120, 121, 122, 123, 124, 125, 126, 131, 132, 133, 136]
def tkd : Nat → Nat
  | 13 => 1
  | 17 => 1
  | 24 => 1
  | 26 => 1
  | 29 => 1
  | 43 => 1
  | 47 => 3
  | 49 => 1
  | 52 => 1
  | 54 => 3
  | 61 => 1
  | 74 => 2
  | 136 => 3
  | _ => 0
abbrev tR : Type := mR tS
def tin (x : Nat) (j : Int32) : Prop := ¬ (j < 0 ∨ tlen x ≤ j.toNatClampNeg)
def tpI (h : tS) (x : Nat) (n : Int32) (K : tS → tR) : tR := K (tsI h x n)
def tpL (h : tS) (x : Nat) (n : Int64) (K : tS → tR) : tR := K (tsL h x n)
def tpZ (h : tS) (x : Nat) (n : Int32) (K : tS → tR) : tR := if n = 0 ∨ n = 1 then K (tsI h x n) else none
def taI (h : tS) (x : Nat) (j : Int32) (K : Int32 → tR) : tR := if j < 0 ∨ tlen x ≤ j.toNatClampNeg then none else K (tA h x j.toNatClampNeg)
def taL (h : tS) (x : Nat) (j : Int32) (K : Int64 → tR) : tR := if j < 0 ∨ tlen x ≤ j.toNatClampNeg then none else K (tB h x j.toNatClampNeg)
def tsaI (h : tS) (x : Nat) (j : Int32) (n : Int32) (K : tS → tR) : tR := if j < 0 ∨ tlen x ≤ j.toNatClampNeg then none else K (tsA h x j.toNatClampNeg n)
def tsaL (h : tS) (x : Nat) (j : Int32) (n : Int64) (K : tS → tR) : tR := if j < 0 ∨ tlen x ≤ j.toNatClampNeg then none else K (tsB h x j.toNatClampNeg n)
def tsaB (h : tS) (x : Nat) (j : Int32) (n : Int32) (K : tS → tR) : tR := if j < 0 ∨ tlen x ≤ j.toNatClampNeg then none else K (tsA h x j.toNatClampNeg n.toInt8.toInt32)
def tsaZ (h : tS) (x : Nat) (j : Int32) (n : Int32) (K : tS → tR) : tR := if j < 0 ∨ tlen x ≤ j.toNatClampNeg then none else if n = 0 ∨ n = 1 then K (tsA h x j.toNatClampNeg n) else none
def g_tI (x : Nat) : Value → tS → (mE → tR) → tR := fun v h K => match v with
  | .ref 0 => K (eI (tI h x))
  | _ => none
def g_tL (x : Nat) : Value → tS → (mE → tR) → tR := fun v h K => match v with
  | .ref 0 => K (eL (tL h x))
  | _ => none
def g_tR (x : Nat) : Value → tS → (mE → tR) → tR := fun v _ K => match v with
  | .ref 0 => K (eR (.ref (x + 1)))
  | _ => none
def g_tpI (x : Nat) : Value → mE → tS → (tS → tR) → tR := fun v e h K => match v, e with
  | .ref 0, .inl n => tpI h x n K
  | _, _ => none
def g_tpZ (x : Nat) : Value → mE → tS → (tS → tR) → tR := fun v e h K => match v, e with
  | .ref 0, .inl n => tpZ h x n K
  | _, _ => none
def g_tpL (x : Nat) : Value → mE → tS → (tS → tR) → tR := fun v e h K => match v, e with
  | .ref 0, .inr (.inl n) => tpL h x n K
  | _, _ => none
def g_taI : Value → Int32 → tS → (mE → tR) → tR := fun v j h K => match v with
  | .ref (x + 1) => cond (Nat.beq (tkd x) 0) (taI h x j (fun n => K (eI n))) none
  | _ => none
def g_taB : Value → Int32 → tS → (mE → tR) → tR := fun v j h K => match v with
  | .ref (x + 1) => cond (Nat.beq (tkd x) 2) (taI h x j (fun n => K (eI n))) none
  | _ => none
def g_taZ : Value → Int32 → tS → (mE → tR) → tR := fun v j h K => match v with
  | .ref (x + 1) => cond (Nat.beq (tkd x) 3) (taI h x j (fun n => K (eI n))) none
  | _ => none
def g_taL : Value → Int32 → tS → (mE → tR) → tR := fun v j h K => match v with
  | .ref (x + 1) => cond (Nat.beq (tkd x) 1) (taL h x j (fun n => K (eL n))) none
  | _ => none
def g_tsaI : Value → Int32 → mE → tS → (tS → tR) → tR := fun v j e h K => match v, e with
  | .ref (x + 1), .inl n => cond (Nat.beq (tkd x) 0) (tsaI h x j n K) none
  | _, _ => none
def g_tsaB : Value → Int32 → mE → tS → (tS → tR) → tR := fun v j e h K => match v, e with
  | .ref (x + 1), .inl n => cond (Nat.beq (tkd x) 2) (tsaB h x j n K) none
  | _, _ => none
def g_tsaZ : Value → Int32 → mE → tS → (tS → tR) → tR := fun v j e h K => match v, e with
  | .ref (x + 1), .inl n => cond (Nat.beq (tkd x) 3) (tsaZ h x j n K) none
  | _, _ => none
def g_tsaL : Value → Int32 → mE → tS → (tS → tR) → tR := fun v j e h K => match v, e with
  | .ref (x + 1), .inr (.inl n) => cond (Nat.beq (tkd x) 1) (tsaL h x j n K) none
  | _, _ => none
def g_tlen : Value → tS → (Int32 → tR) → tR := fun v _ K => match v with
  | .ref (x + 1) => K (Int32.ofNat (tlen x))
  | _ => none
theorem mO1_k {X A : Type} (a : A) : mO1 (fun K : A → mR X => K a) := Or.inl ⟨a, fun _ => rfl⟩
theorem mO1_n {X A : Type} : mO1 (fun _ : A → mR X => none) := Or.inr (fun _ => rfl)
theorem mO1_cond {X A : Type} {b : Bool} {f : (A → mR X) → mR X} (hf : mO1 f) : mO1 (fun K => cond b (f K) none) := by
  cases b
  · exact mO1_n
  · exact hf
theorem mO1_ite {X A : Type} {c : Prop} [Decidable c] {f g : (A → mR X) → mR X} (hf : mO1 f) (hg : mO1 g) : mO1 (fun K => if c then f K else g K) := by
  by_cases hc : c
  · simpa [hc] using hf
  · simpa [hc] using hg
theorem o_tI (x : Nat) : ∀ v h, mO1 (g_tI x v h) := by
  intro v h
  rcases v with _ | _ | _ | _ | _ | (_ | a) | _ <;> first | exact mO1_k _ | exact mO1_n
theorem o_tL (x : Nat) : ∀ v h, mO1 (g_tL x v h) := by
  intro v h
  rcases v with _ | _ | _ | _ | _ | (_ | a) | _ <;> first | exact mO1_k _ | exact mO1_n
theorem o_tR (x : Nat) : ∀ v h, mO1 (g_tR x v h) := by
  intro v h
  rcases v with _ | _ | _ | _ | _ | (_ | a) | _ <;> first | exact mO1_k _ | exact mO1_n
theorem o_tpI (x : Nat) : ∀ v e h, mO1 (g_tpI x v e h) := by
  intro v e h
  rcases v with _ | _ | _ | _ | _ | (_ | a) | _ <;> rcases e with (n | (n | n)) <;> first | exact mO1_k _ | exact mO1_n
theorem o_tpL (x : Nat) : ∀ v e h, mO1 (g_tpL x v e h) := by
  intro v e h
  rcases v with _ | _ | _ | _ | _ | (_ | a) | _ <;> rcases e with (n | (n | n)) <;> first | exact mO1_k _ | exact mO1_n
theorem o_tpZ (x : Nat) : ∀ v e h, mO1 (g_tpZ x v e h) := by
  intro v e h
  rcases v with _ | _ | _ | _ | _ | (_ | a) | _ <;> rcases e with (n | (n | n)) <;> first | exact mO1_ite (c := n = 0 ∨ n = 1) (mO1_k _) mO1_n | exact mO1_n
theorem o_taI : ∀ v j h, mO1 (g_taI v j h) := by
  intro v j h
  rcases v with _ | _ | _ | _ | _ | (_ | a) | _ <;> first | exact mO1_cond (mO1_ite (c := j < 0 ∨ tlen a ≤ j.toNatClampNeg) mO1_n (mO1_k _)) | exact mO1_n
theorem o_taL : ∀ v j h, mO1 (g_taL v j h) := by
  intro v j h
  rcases v with _ | _ | _ | _ | _ | (_ | a) | _ <;> first | exact mO1_cond (mO1_ite (c := j < 0 ∨ tlen a ≤ j.toNatClampNeg) mO1_n (mO1_k _)) | exact mO1_n
theorem o_taB : ∀ v j h, mO1 (g_taB v j h) := by
  intro v j h
  rcases v with _ | _ | _ | _ | _ | (_ | a) | _ <;> first | exact mO1_cond (mO1_ite (c := j < 0 ∨ tlen a ≤ j.toNatClampNeg) mO1_n (mO1_k _)) | exact mO1_n
theorem o_taZ : ∀ v j h, mO1 (g_taZ v j h) := by
  intro v j h
  rcases v with _ | _ | _ | _ | _ | (_ | a) | _ <;> first | exact mO1_cond (mO1_ite (c := j < 0 ∨ tlen a ≤ j.toNatClampNeg) mO1_n (mO1_k _)) | exact mO1_n
theorem o_tsaI : ∀ v j e h, mO1 (g_tsaI v j e h) := by
  intro v j e h
  rcases v with _ | _ | _ | _ | _ | (_ | a) | _ <;> rcases e with (n | (n | n)) <;> first | exact mO1_cond (mO1_ite (c := j < 0 ∨ tlen a ≤ j.toNatClampNeg) mO1_n (mO1_k _)) | exact mO1_n
theorem o_tsaL : ∀ v j e h, mO1 (g_tsaL v j e h) := by
  intro v j e h
  rcases v with _ | _ | _ | _ | _ | (_ | a) | _ <;> rcases e with (n | (n | n)) <;> first | exact mO1_cond (mO1_ite (c := j < 0 ∨ tlen a ≤ j.toNatClampNeg) mO1_n (mO1_k _)) | exact mO1_n
theorem o_tsaB : ∀ v j e h, mO1 (g_tsaB v j e h) := by
  intro v j e h
  rcases v with _ | _ | _ | _ | _ | (_ | a) | _ <;> rcases e with (n | (n | n)) <;> first | exact mO1_cond (mO1_ite (c := j < 0 ∨ tlen a ≤ j.toNatClampNeg) mO1_n (mO1_k _)) | exact mO1_n
theorem o_tsaZ : ∀ v j e h, mO1 (g_tsaZ v j e h) := by
  intro v j e h
  rcases v with _ | _ | _ | _ | _ | (_ | a) | _ <;> rcases e with (n | (n | n)) <;> first | exact mO1_cond (mO1_ite (c := j < 0 ∨ tlen a ≤ j.toNatClampNeg) mO1_n (mO1_ite (c := n = 0 ∨ n = 1) (mO1_k _) mO1_n)) | exact mO1_n
theorem o_tlen : ∀ v h, mO1 (g_tlen v h) := by
  intro v h
  rcases v with _ | _ | _ | _ | _ | (_ | a) | _ <;> first | exact mO1_k _ | exact mO1_n
