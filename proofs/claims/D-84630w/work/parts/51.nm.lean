set_option maxRecDepth 100000
/-! D1: signs, names as numbers -/
def bi (b : Bool) : Int32 := if b = true then 1 else 0
theorem bi_t : bi true = 1 := rfl
theorem bi_f : bi false = 0 := rfl
theorem bi_0 (b : Bool) : (bi b = 0) = (b = false) := by cases b <;> simp [bi]
theorem bi_1 (b : Bool) : (bi b = 1) = (b = true) := by cases b <;> simp [bi]
theorem bi_01 (b : Bool) : (bi b = 0 ∨ bi b = 1) = True := by cases b <;> simp [bi]
def aL (c : Int32) : Bool := if c < 97 then false else if 122 < c then false else true
def aD (c : Int32) : Bool := if c < 48 then false else if 57 < c then false else true
def aA (c : Int32) : Bool := aL c || aD c
/-- a sign's digit of the reference -/
def dg (c : Int32) : Int32 := if aL c = true then (c - 97) + 1 else (c - 48) + 27
/-- a name's signs as numbers -/
def p8 (l : List Int32) : Int64 := l.foldl (fun v c => (v <<< ((8 : Int32).toInt64 &&& 63)) ||| c.toInt64) 0
def p37 (l : List Int32) : Int64 := l.foldl (fun v c => (37 * v) + (dg c).toInt64) 0
theorem p8_snoc (l : List Int32) (c : Int32) : p8 (l ++ [c]) = (p8 l <<< ((8 : Int32).toInt64 &&& 63)) ||| c.toInt64 := by
  unfold p8; rw [List.foldl_append]; rfl
theorem p37_snoc (l : List Int32) (c : Int32) : p37 (l ++ [c]) = (37 * p37 l) + (dg c).toInt64 := by
  unfold p37; rw [List.foldl_append]; rfl
def gl (l : List Int32) : Prop := l.length ≤ 8 ∧ ∀ c ∈ l, aA c = true
theorem aA_cases {c : Int32} (h : aA c = true) : (aL c = true ∧ 97 ≤ c.toInt ∧ c.toInt ≤ 122) ∨ (aL c = false ∧ 48 ≤ c.toInt ∧ c.toInt ≤ 57) := by
  have e1 : (97 : Int32).toInt = 97 := rfl
  have e2 : (122 : Int32).toInt = 122 := rfl
  have e3 : (48 : Int32).toInt = 48 := rfl
  have e4 : (57 : Int32).toInt = 57 := rfl
  unfold aA aL aD at h
  unfold aL
  simp only [Int32.lt_iff_toInt_lt, e1, e2, e3, e4] at h ⊢
  by_cases h1 : c.toInt < 97
  · simp only [h1, if_true, Bool.false_or] at h ⊢
    right
    by_cases h2 : c.toInt < 48
    · simp [h2] at h
    · by_cases h3 : 57 < c.toInt
      · simp [h2, h3] at h
      · exact ⟨trivial, by omega, by omega⟩
  · by_cases h2 : 122 < c.toInt
    · have h3 : ¬ c.toInt < 48 := by omega
      have h4 : 57 < c.toInt := by omega
      simp [h1, h2, h3, h4] at h
    · left
      simp only [h1, h2, if_false]
      exact ⟨trivial, by omega, by omega⟩
theorem dg_int {c : Int32} (h : aA c = true) : (aL c = true ∧ (dg c).toInt = c.toInt - 96) ∨ (aL c = false ∧ (dg c).toInt = c.toInt - 21) := by
  rcases aA_cases h with ⟨h1, h2, h3⟩ | ⟨h1, h2, h3⟩
  · left
    refine ⟨h1, ?_⟩
    unfold dg
    rw [if_pos h1, Int32.toInt_add, Int32.toInt_sub, show (97 : Int32).toInt = 97 from rfl, show (1 : Int32).toInt = 1 from rfl]
    rw [Int.bmod_eq_of_le (n := c.toInt - 97) (by omega) (by omega), Int.bmod_eq_of_le (by omega) (by omega)]
    omega
  · right
    refine ⟨h1, ?_⟩
    unfold dg
    rw [if_neg (by simp [h1]), Int32.toInt_add, Int32.toInt_sub, show (48 : Int32).toInt = 48 from rfl, show (27 : Int32).toInt = 27 from rfl]
    rw [Int.bmod_eq_of_le (n := c.toInt - 48) (by omega) (by omega), Int.bmod_eq_of_le (by omega) (by omega)]
    omega
/-- numbers of digits, the last sign first -/
def nB (b : Nat) (f : Int32 → Nat) : List Int32 → Nat
  | [] => 0
  | c :: r => b * nB b f r + f c
theorem nB_inj {b : Nat} {f : Int32 → Nat} {P : Int32 → Prop} (h1 : ∀ c, P c → 1 ≤ f c) (h2 : ∀ c, P c → f c < b) (h3 : ∀ c c', P c → P c' → f c = f c' → c = c') :
    ∀ l l', (∀ c ∈ l, P c) → (∀ c ∈ l', P c) → nB b f l = nB b f l' → l = l' := by
  intro l
  induction l with
  | nil =>
    intro l' _ hl' e
    cases l' with
    | nil => rfl
    | cons c r =>
      have := h1 c (hl' c List.mem_cons_self)
      simp only [nB] at e
      omega
  | cons c r ih =>
    intro l' hl hl' e
    cases l' with
    | nil =>
      have := h1 c (hl c List.mem_cons_self)
      simp only [nB] at e
      omega
    | cons c' r' =>
      have pc := hl c List.mem_cons_self
      have pc' := hl' c' List.mem_cons_self
      have q1 := h2 c pc
      have q2 := h2 c' pc'
      simp only [nB] at e
      have e1 : (b * nB b f r + f c) % b = (b * nB b f r' + f c') % b := by rw [e]
      rw [Nat.mul_add_mod, Nat.mul_add_mod, Nat.mod_eq_of_lt q1, Nat.mod_eq_of_lt q2] at e1
      have e2 : nB b f r = nB b f r' := by
        have hb : 0 < b := by omega
        rw [e1] at e
        exact Nat.eq_of_mul_eq_mul_left hb (by omega)
      rw [h3 c c' pc pc' e1, ih r' (fun c h => hl c (List.mem_cons_of_mem _ h)) (fun c h => hl' c (List.mem_cons_of_mem _ h)) e2]
theorem nB_lt {b : Nat} {f : Int32 → Nat} : ∀ l : List Int32, (∀ c ∈ l, f c < b) → nB b f l < b ^ l.length := by
  intro l
  induction l with
  | nil => intro _; simp [nB]
  | cons c r ih =>
    intro h
    have h1 := ih (fun c hc => h c (List.mem_cons_of_mem _ hc))
    have h2 := h c List.mem_cons_self
    simp only [nB, List.length_cons, Nat.pow_succ]
    have h3 : b * (nB b f r + 1) ≤ b * b ^ r.length := Nat.mul_le_mul_left _ h1
    rw [Nat.mul_add, Nat.mul_one] at h3
    rw [Nat.mul_comm (b ^ r.length) b]
    omega
def f8 (c : Int32) : Nat := c.toInt.toNat
def f37 (c : Int32) : Nat := (dg c).toInt.toNat
theorem f8_lt {c : Int32} (h : aA c = true) : 1 ≤ f8 c ∧ f8 c < 128 := by
  unfold f8
  rcases aA_cases h with ⟨_, h2, h3⟩ | ⟨_, h2, h3⟩ <;> omega
theorem f8_inj {c c' : Int32} (h : aA c = true) (h' : aA c' = true) (e : f8 c = f8 c') : c = c' := by
  unfold f8 at e
  apply Int32.toInt_inj.1
  rcases aA_cases h with ⟨_, h2, h3⟩ | ⟨_, h2, h3⟩ <;> rcases aA_cases h' with ⟨_, h5, h6⟩ | ⟨_, h5, h6⟩ <;> omega
theorem f37_lt {c : Int32} (h : aA c = true) : 1 ≤ f37 c ∧ f37 c < 37 := by
  unfold f37
  rcases aA_cases h with ⟨_, h2, h3⟩ | ⟨_, h2, h3⟩ <;> rcases dg_int h with ⟨h4, h5⟩ | ⟨h4, h5⟩ <;> simp_all <;> omega
theorem f37_inj {c c' : Int32} (h : aA c = true) (h' : aA c' = true) (e : f37 c = f37 c') : c = c' := by
  unfold f37 at e
  apply Int32.toInt_inj.1
  rcases aA_cases h with ⟨a1, h2, h3⟩ | ⟨a1, h2, h3⟩ <;> rcases dg_int h with ⟨a2, h5⟩ | ⟨a2, h5⟩ <;> rcases aA_cases h' with ⟨b1, k2, k3⟩ | ⟨b1, k2, k3⟩ <;> rcases dg_int h' with ⟨b2, k5⟩ | ⟨b2, k5⟩ <;> simp_all <;> omega
theorem p8_nat : ∀ r : List Int32, (∀ c ∈ r, aA c = true) → r.length ≤ 8 → (p8 r.reverse).toBitVec.toNat = nB 256 f8 r := by
  intro r
  induction r with
  | nil => intro _ _; rfl
  | cons c r ih =>
    intro h hl
    have hc := h c List.mem_cons_self
    have h1 := ih (fun c hc => h c (List.mem_cons_of_mem _ hc)) (by simp at hl; omega)
    have h2 : nB 256 f8 r < 256 ^ r.length := nB_lt r (fun c hc => by have := f8_lt (h c (List.mem_cons_of_mem _ hc)); omega)
    have h3 : 256 ^ r.length ≤ 256 ^ 7 := Nat.pow_le_pow_right (by decide) (by simp at hl; omega)
    rw [List.reverse_cons, p8_snoc]
    have e1 : ((8 : Int32).toInt64 &&& 63) = (8 : Int64) := rfl
    rw [e1, Int64.toBitVec_or, Int64.toBitVec_shiftLeft]
    have e2 : ((8 : Int64).toBitVec.smod 64) = (8#64) := rfl
    rw [e2, BitVec.toNat_or, BitVec.shiftLeft_eq', BitVec.toNat_shiftLeft, h1]
    have e3 : (8#64).toNat = 8 := rfl
    have e4 : (c.toInt64).toBitVec.toNat = f8 c := by
      have q := f8_lt hc
      unfold f8 at q ⊢
      have q2 : c.toInt64.toInt = c.toInt := Int32.toInt_toInt64 c
      have q3 : c.toInt64.toInt = c.toInt64.toBitVec.toInt := rfl
      rw [← q2, q3, BitVec.toInt_eq_toNat_cond] at q ⊢
      split
      · omega
      · rename_i q4; rw [if_neg q4] at q; omega
    rw [e3, e4]
    have e5 : nB 256 f8 r <<< 8 % 2 ^ 64 = nB 256 f8 r <<< 8 := by
      rw [Nat.shiftLeft_eq]
      apply Nat.mod_eq_of_lt
      have : (256 : Nat) ^ 7 * 256 = 2 ^ 64 := by decide
      omega
    rw [e5, ← Nat.shiftLeft_add_eq_or_of_lt (by have := f8_lt hc; omega), Nat.shiftLeft_eq]
    simp only [nB]
    omega
theorem p37_int : ∀ r : List Int32, (∀ c ∈ r, aA c = true) → r.length ≤ 8 → (p37 r.reverse).toInt = (nB 37 f37 r : Nat) := by
  intro r
  induction r with
  | nil => intro _ _; rfl
  | cons c r ih =>
    intro h hl
    have hc := h c List.mem_cons_self
    have h1 := ih (fun c hc => h c (List.mem_cons_of_mem _ hc)) (by simp at hl; omega)
    have h2 : nB 37 f37 r < 37 ^ r.length := nB_lt r (fun c hc => (f37_lt (h c (List.mem_cons_of_mem _ hc))).2)
    have h3 : 37 ^ r.length ≤ 37 ^ 7 := Nat.pow_le_pow_right (by decide) (by simp at hl; omega)
    have h4 : (37 : Nat) ^ 7 = 94931877133 := by decide
    have h5 := f37_lt hc
    have h6 : (dg c).toInt64.toInt = (f37 c : Nat) := by
      rw [Int32.toInt_toInt64]
      unfold f37 at h5 ⊢
      omega
    rw [List.reverse_cons, p37_snoc, Int64.toInt_add, Int64.toInt_mul, h1, h6, show (37 : Int64).toInt = 37 from rfl]
    rw [Int.bmod_eq_of_le (n := (37 : Int) * (nB 37 f37 r : Nat)) (by omega) (by omega), Int.bmod_eq_of_le (by omega) (by omega)]
    simp only [nB]
    omega
theorem p8_inj {l l' : List Int32} (h : gl l) (h' : gl l') : p8 l = p8 l' ↔ l = l' := by
  constructor
  · intro e
    have e1 := p8_nat l.reverse (fun c hc => h.2 c (List.mem_reverse.1 hc)) (by simpa using h.1)
    have e2 := p8_nat l'.reverse (fun c hc => h'.2 c (List.mem_reverse.1 hc)) (by simpa using h'.1)
    rw [List.reverse_reverse] at e1 e2
    rw [e, e2] at e1
    have e3 := nB_inj (b := 256) (f := f8) (P := fun c => aA c = true) (fun c q => (f8_lt q).1) (fun c q => by have := (f8_lt q).2; omega) (fun c c' q q' => f8_inj q q') l'.reverse l.reverse (fun c hc => h'.2 c (List.mem_reverse.1 hc)) (fun c hc => h.2 c (List.mem_reverse.1 hc)) e1
    have e4 := congrArg List.reverse e3
    rw [List.reverse_reverse, List.reverse_reverse] at e4
    exact e4.symm
  · intro e; rw [e]
theorem p37_inj {l l' : List Int32} (h : gl l) (h' : gl l') : p37 l = p37 l' ↔ l = l' := by
  constructor
  · intro e
    have e1 := p37_int l.reverse (fun c hc => h.2 c (List.mem_reverse.1 hc)) (by simpa using h.1)
    have e2 := p37_int l'.reverse (fun c hc => h'.2 c (List.mem_reverse.1 hc)) (by simpa using h'.1)
    rw [List.reverse_reverse] at e1 e2
    rw [e, e2] at e1
    have e3 := nB_inj (b := 37) (f := f37) (P := fun c => aA c = true) (fun c q => (f37_lt q).1) (fun c q => (f37_lt q).2) (fun c c' q q' => f37_inj q q') l'.reverse l.reverse (fun c hc => h'.2 c (List.mem_reverse.1 hc)) (fun c hc => h.2 c (List.mem_reverse.1 hc)) (by omega)
    have e4 := congrArg List.reverse e3
    rw [List.reverse_reverse, List.reverse_reverse] at e4
    exact e4.symm
  · intro e; rw [e]
/-- two numbers of one name -/
def nm (a b : Int64) : Prop := ∃ l, gl l ∧ a = p8 l ∧ b = p37 l
theorem nm_eq {a b a' b' : Int64} (h : nm a b) (h' : nm a' b') : a = a' ↔ b = b' := by
  obtain ⟨l, g, e1, e2⟩ := h
  obtain ⟨l', g', e1', e2'⟩ := h'
  rw [e1, e2, e1', e2', p8_inj g g', p37_inj g g']
