/-! mu: an instruction is a function of its continuations; a method's code is a list of them -/
abbrev mE : Type := Int32 ⊕ (Int64 ⊕ Value)
abbrev eI (n : Int32) : mE := .inl n
abbrev eL (n : Int64) : mE := .inr (.inl n)
abbrev eR (v : Value) : mE := .inr (.inr v)
abbrev mLoc : Type := List (Option mE)
abbrev mStk : Type := List mE
abbrev mRes : Type := Option mE ⊕ Value
abbrev mR (X : Type) : Type := Option (mRes × X)
abbrev mK (X : Type) : Type := mLoc → mStk → X → mR X
abbrev mIns (X : Type) : Type := mLoc → mStk → X → (Nat → mK X) → mR X
abbrev mCF (X : Type) : Type := Nat → List mE → X → mR X
def nthD {α : Type} (d : α) : List α → Nat → α
  | [], _ => d
  | a :: _, 0 => a
  | _ :: t, n + 1 => nthD d t n
def mdead {X : Type} : mK X := fun _ _ _ => none
def mkill : mLoc → List Nat → mLoc
  | ls, [] => ls
  | ls, i :: is => mkill (ls.set i none) is
def mskOf : List (Nat × List Nat) → Nat → List Nat
  | [], _ => []
  | p :: t, j => cond (Nat.beq p.1 j) p.2 (mskOf t j)
abbrev mCode (X : Type) : Type := List (Nat × List Nat) × List (mIns X)
/-- where a jump to j goes: on in the code (j below 1000), or to the point j - 1000, what is dead there forgotten -/
def mto {X : Type} (back : Nat → mK X) (mk : List (Nat × List Nat)) (i : Nat) (ks : List (mK X)) (j : Nat) : mK X := cond (Nat.blt j 1000) (nthD mdead ks (j - (i + 1))) (fun ls st h => back (j - 1000) (mkill ls (mskOf mk (j - 1000))) st h)
def msem {X : Type} (back : Nat → mK X) (mk : List (Nat × List Nat)) : Nat → List (mIns X) → List (mK X)
  | _, [] => []
  | i, e :: es => (fun ls st h => e ls st h (mto back mk i (msem back mk (i + 1) es))) :: msem back mk (i + 1) es
def mpt {X : Type} (back : Nat → mK X) (tab : mCode X) (j : Nat) : mK X := nthD mdead (msem back tab.1 0 tab.2) j
def mptn {X : Type} (tab : mCode X) : Nat → Nat → mK X
  | 0 => fun _ => mdead
  | n + 1 => fun j => mpt (mptn tab n) tab j
def mTail {X : Type} (e : mIns X) : Prop := ∀ (ls : mLoc) (st : mStk) (h : X), (∃ r : mR X, ∀ k, e ls st h k = r) ∨ (∃ (j : Nat) (ls' : mLoc) (st' : mStk) (h' : X), ∀ k, e ls st h k = k j ls' st' h')
def mLe {X : Type} (b1 b2 : Nat → mK X) : Prop := ∀ j ls st h r, b1 j ls st h = some r → b2 j ls st h = some r
theorem msem_mono {X : Type} {b1 b2 : Nat → mK X} (hb : mLe b1 b2) (mk : List (Nat × List Nat)) : ∀ (es : List (mIns X)) (i : Nat), (∀ e ∈ es, mTail e) → ∀ j ls st h r, nthD mdead (msem b1 mk i es) j ls st h = some r → nthD mdead (msem b2 mk i es) j ls st h = some r := by
  intro es
  induction es with
  | nil => intro i _ j ls st h r hr; simp [msem, nthD, mdead] at hr
  | cons e es ih =>
    intro i ht j
    cases j with
    | zero =>
      intro ls st h r hr
      simp only [msem, nthD] at hr ⊢
      rcases ht e List.mem_cons_self ls st h with ⟨r0, h0⟩ | ⟨j, ls', st', h', h0⟩
      · rw [h0] at hr ⊢; exact hr
      · rw [h0] at hr ⊢
        unfold mto at hr ⊢
        cases hc : Nat.blt j 1000 with
        | true => rw [hc] at hr; exact ih (i + 1) (fun e h => ht e (List.mem_cons_of_mem _ h)) _ _ _ _ _ hr
        | false => rw [hc] at hr; exact hb _ _ _ _ _ hr
    | succ j =>
      intro ls st h r hr
      simp only [msem, nthD] at hr ⊢
      exact ih (i + 1) (fun e h => ht e (List.mem_cons_of_mem _ h)) _ _ _ _ _ hr
theorem mptn_mono {X : Type} {tab : mCode X} (ht : ∀ e ∈ tab.2, mTail e) : ∀ n, mLe (mptn tab n) (mptn tab (n + 1)) := by
  intro n
  induction n with
  | zero => intro j ls st h r hr; simp [mptn, mdead] at hr
  | succ n ih => intro j ls st h r hr; exact msem_mono ih tab.1 tab.2 0 ht j ls st h r hr
theorem mptn_le {X : Type} {tab : mCode X} (ht : ∀ e ∈ tab.2, mTail e) {n m : Nat} (h : n ≤ m) : mLe (mptn tab n) (mptn tab m) := by
  induction h with
  | refl => intro j ls st h r hr; exact hr
  | step _ ih => intro j ls st h r hr; exact mptn_mono ht _ _ _ _ _ _ (ih _ _ _ _ _ hr)
/-- the value of a point: what it comes to with enough turns -/
def mLim {X : Type} (tab : mCode X) (j : Nat) (ls : mLoc) (st : mStk) (h : X) (r : mR X) : Prop := (∃ n q, mptn tab n j ls st h = some q ∧ r = some q) ∨ (r = none ∧ ∀ n, mptn tab n j ls st h = none)
noncomputable def mev {X : Type} (tab : mCode X) : Nat → mK X := fun j ls st h => @Classical.epsilon (mR X) ⟨none⟩ (mLim tab j ls st h)
theorem mLim_ex {X : Type} (tab : mCode X) (j : Nat) (ls : mLoc) (st : mStk) (h : X) : ∃ r, mLim tab j ls st h r := by
  by_cases H : ∃ n q, mptn tab n j ls st h = some q
  · obtain ⟨n, q, hq⟩ := H
    exact ⟨some q, Or.inl ⟨n, q, hq, rfl⟩⟩
  · refine ⟨none, Or.inr ⟨rfl, fun n => ?_⟩⟩
    cases hc : mptn tab n j ls st h with
    | none => rfl
    | some q => exact absurd ⟨n, q, hc⟩ H
theorem mev_lim {X : Type} (tab : mCode X) (j : Nat) (ls : mLoc) (st : mStk) (h : X) : mLim tab j ls st h (mev tab j ls st h) := @Classical.epsilon_spec (mR X) (mLim tab j ls st h) (mLim_ex tab j ls st h)
theorem mev_of {X : Type} {tab : mCode X} (ht : ∀ e ∈ tab.2, mTail e) {n j : Nat} {ls : mLoc} {st : mStk} {h : X} {r : mRes × X} (hr : mptn tab n j ls st h = some r) : mev tab j ls st h = some r := by
  rcases mev_lim tab j ls st h with ⟨m, q, h1, h2⟩ | ⟨-, h2⟩
  · have e1 := mptn_le ht (Nat.le_max_left n m) _ _ _ _ _ hr
    have e2 := mptn_le ht (Nat.le_max_right n m) _ _ _ _ _ h1
    rw [e1] at e2
    rw [h2, ← e2]
  · rw [h2 n] at hr
    cases hr
theorem mev_some {X : Type} {tab : mCode X} {j : Nat} {ls : mLoc} {st : mStk} {h : X} {r : mRes × X} (hr : mev tab j ls st h = some r) : ∃ n, mptn tab n j ls st h = some r := by
  rcases mev_lim tab j ls st h with ⟨m, q, h1, h2⟩ | ⟨h2, -⟩
  · rw [hr] at h2
    exact ⟨m, by rw [h1, ← h2]⟩
  · rw [hr] at h2
    cases h2
theorem msem_cont {X : Type} {tab : mCode X} (mk : List (Nat × List Nat)) : ∀ (es : List (mIns X)) (i : Nat), (∀ e ∈ es, mTail e) → ∀ j ls st h r, nthD mdead (msem (mev tab) mk i es) j ls st h = some r → ∃ n, nthD mdead (msem (mptn tab n) mk i es) j ls st h = some r := by
  intro es
  induction es with
  | nil => intro i _ j ls st h r hr; simp [msem, nthD, mdead] at hr
  | cons e es ih =>
    intro i ht j
    cases j with
    | zero =>
      intro ls st h r hr
      simp only [msem, nthD] at hr ⊢
      rcases ht e List.mem_cons_self ls st h with ⟨r0, h0⟩ | ⟨j, ls', st', h', h0⟩
      · rw [h0] at hr
        exact ⟨0, by rw [h0]; exact hr⟩
      · rw [h0] at hr
        unfold mto at hr
        cases hc : Nat.blt j 1000 with
        | true =>
          rw [hc] at hr
          obtain ⟨n, hn⟩ := ih (i + 1) (fun e h => ht e (List.mem_cons_of_mem _ h)) _ _ _ _ _ hr
          exact ⟨n, by rw [h0]; unfold mto; rw [hc]; exact hn⟩
        | false =>
          rw [hc] at hr
          obtain ⟨n, hn⟩ := mev_some hr
          exact ⟨n, by rw [h0]; unfold mto; rw [hc]; exact hn⟩
    | succ j =>
      intro ls st h r hr
      simp only [msem, nthD] at hr ⊢
      exact ih (i + 1) (fun e h => ht e (List.mem_cons_of_mem _ h)) _ _ _ _ _ hr
/-- a point's value is what its instructions say, with the values of the points behind -/
theorem mev_fix {X : Type} {tab : mCode X} (ht : ∀ e ∈ tab.2, mTail e) (j : Nat) (ls : mLoc) (st : mStk) (h : X) : mev tab j ls st h = mpt (mev tab) tab j ls st h := by
  cases hc : mpt (mev tab) tab j ls st h with
  | some r =>
    obtain ⟨n, hn⟩ := msem_cont tab.1 tab.2 0 ht j ls st h r hc
    exact mev_of ht (n := n + 1) hn
  | none =>
    cases hd : mev tab j ls st h with
    | none => rfl
    | some r =>
      obtain ⟨n, hn⟩ := mev_some hd
      cases n with
      | zero => simp [mptn, mdead] at hn
      | succ n =>
        have h1 : mLe (mptn tab n) (mev tab) := fun j ls st h r hr => mev_of ht hr
        have h2 := msem_mono h1 tab.1 tab.2 0 ht j ls st h r hn
        have h3 : mpt (mev tab) tab j ls st h = some r := h2
        rw [hc] at h3
        cases h3
/-! locals -/
def setl1 : mLoc → Nat → mE → mLoc
  | [], _, _ => []
  | _ :: t, 0, e => some e :: t
  | a :: t, 1, e => (match a with | some (.inr (.inl _)) => none | b => b) :: setl1 t 0 e
  | a :: t, n + 2, e => a :: setl1 t (n + 1) e
def setl2 (ls : mLoc) (i : Nat) (e : mE) : mLoc := (setl1 ls i e).set (i + 1) none
/-! pure instructions -/
section
variable {X : Type}
def i_k (e : mE) (nx : Nat) : mIns X := fun ls st h k => k nx ls (e :: st) h
def i_ldI (i nx : Nat) : mIns X := fun ls st h k => match nthD none ls i with
  | some (.inl n) => k nx ls (.inl n :: st) h
  | _ => none
def i_ldL (i nx : Nat) : mIns X := fun ls st h k => match nthD none ls i with
  | some (.inr (.inl n)) => k nx ls (.inr (.inl n) :: st) h
  | _ => none
def i_ldR (i nx : Nat) : mIns X := fun ls st h k => match nthD none ls i with
  | some (.inr (.inr v)) => k nx ls (.inr (.inr v) :: st) h
  | _ => none
def i_stI (i nx : Nat) : mIns X := fun ls st h k => match st with
  | .inl n :: r => k nx (setl1 ls i (.inl n)) r h
  | _ => none
def i_stL (i nx : Nat) : mIns X := fun ls st h k => match st with
  | .inr (.inl n) :: r => k nx (setl2 ls i (.inr (.inl n))) r h
  | _ => none
def i_stR (i nx : Nat) : mIns X := fun ls st h k => match st with
  | .inr (.inr v) :: r => k nx (setl1 ls i (.inr (.inr v))) r h
  | _ => none
def i_inc (i : Nat) (c : Int32) (nx : Nat) : mIns X := fun ls st h k => match nthD none ls i with
  | some (.inl n) => k nx (setl1 ls i (.inl (n + c))) st h
  | _ => none
def i_i2 (f : Int32 → Int32 → Int32) (nx : Nat) : mIns X := fun ls st h k => match st with
  | .inl b :: .inl a :: r => k nx ls (.inl (f a b) :: r) h
  | _ => none
def i_i1 (f : Int32 → Int32) (nx : Nat) : mIns X := fun ls st h k => match st with
  | .inl a :: r => k nx ls (.inl (f a) :: r) h
  | _ => none
def i_dv (f : Int32 → Int32 → Int32) (nx : Nat) : mIns X := fun ls st h k => match st with
  | .inl b :: .inl a :: r => if b = 0 then none else k nx ls (.inl (f a b) :: r) h
  | _ => none
def i_l2 (f : Int64 → Int64 → Int64) (nx : Nat) : mIns X := fun ls st h k => match st with
  | .inr (.inl b) :: .inr (.inl a) :: r => k nx ls (.inr (.inl (f a b)) :: r) h
  | _ => none
def i_ls (f : Int64 → Int32 → Int64) (nx : Nat) : mIns X := fun ls st h k => match st with
  | .inl b :: .inr (.inl a) :: r => k nx ls (.inr (.inl (f a b)) :: r) h
  | _ => none
def i_i2l (nx : Nat) : mIns X := fun ls st h k => match st with
  | .inl a :: r => k nx ls (.inr (.inl a.toInt64) :: r) h
  | _ => none
def i_l2i (nx : Nat) : mIns X := fun ls st h k => match st with
  | .inr (.inl a) :: r => k nx ls (.inl a.toInt32 :: r) h
  | _ => none
def i_lcmp (nx : Nat) : mIns X := fun ls st h k => match st with
  | .inr (.inl b) :: .inr (.inl a) :: r => k nx ls (.inl (lg_cmp a b) :: r) h
  | _ => none
def i_pop (nx : Nat) : mIns X := fun ls st h k => match st with
  | .inl _ :: r => k nx ls r h
  | .inr (.inr _) :: r => k nx ls r h
  | _ => none
def i_dup (nx : Nat) : mIns X := fun ls st h k => match st with
  | .inl a :: r => k nx ls (.inl a :: .inl a :: r) h
  | .inr (.inr a) :: r => k nx ls (.inr (.inr a) :: .inr (.inr a) :: r) h
  | _ => none
/-- dup_x1 of an int above a reference -/
def i_dupx1 (nx : Nat) : mIns X := fun ls st h k => match st with
  | .inl a :: .inr (.inr b) :: r => k nx ls (.inl a :: .inr (.inr b) :: .inl a :: r) h
  | _ => none
/-- dup2 of an int above a reference -/
def i_dup2 (nx : Nat) : mIns X := fun ls st h k => match st with
  | .inl a :: .inr (.inr b) :: r => k nx ls (.inl a :: .inr (.inr b) :: .inl a :: .inr (.inr b) :: r) h
  | _ => none
def i_aeq (t nx : Nat) : mIns X := fun ls st h k => match st with
  | .inr (.inr b) :: .inr (.inr a) :: r => if a = b then k t ls r h else k nx ls r h
  | _ => none
def i_ane (t nx : Nat) : mIns X := fun ls st h k => match st with
  | .inr (.inr b) :: .inr (.inr a) :: r => if a = b then k nx ls r h else k t ls r h
  | _ => none
def i_go (t : Nat) : mIns X := fun ls st h k => k t ls st h
def i_ifeq (t nx : Nat) : mIns X := fun ls st h k => match st with
  | .inl a :: r => if a = 0 then k t ls r h else k nx ls r h
  | _ => none
def i_ifne (t nx : Nat) : mIns X := fun ls st h k => match st with
  | .inl a :: r => if a = 0 then k nx ls r h else k t ls r h
  | _ => none
def i_iflt (t nx : Nat) : mIns X := fun ls st h k => match st with
  | .inl a :: r => if a < 0 then k t ls r h else k nx ls r h
  | _ => none
def i_ifge (t nx : Nat) : mIns X := fun ls st h k => match st with
  | .inl a :: r => if a < 0 then k nx ls r h else k t ls r h
  | _ => none
def i_ifgt (t nx : Nat) : mIns X := fun ls st h k => match st with
  | .inl a :: r => if 0 < a then k t ls r h else k nx ls r h
  | _ => none
def i_ifle (t nx : Nat) : mIns X := fun ls st h k => match st with
  | .inl a :: r => if 0 < a then k nx ls r h else k t ls r h
  | _ => none
def i_ceq (t nx : Nat) : mIns X := fun ls st h k => match st with
  | .inl b :: .inl a :: r => if a = b then k t ls r h else k nx ls r h
  | _ => none
def i_cne (t nx : Nat) : mIns X := fun ls st h k => match st with
  | .inl b :: .inl a :: r => if a = b then k nx ls r h else k t ls r h
  | _ => none
def i_clt (t nx : Nat) : mIns X := fun ls st h k => match st with
  | .inl b :: .inl a :: r => if a < b then k t ls r h else k nx ls r h
  | _ => none
def i_cge (t nx : Nat) : mIns X := fun ls st h k => match st with
  | .inl b :: .inl a :: r => if a < b then k nx ls r h else k t ls r h
  | _ => none
def i_cgt (t nx : Nat) : mIns X := fun ls st h k => match st with
  | .inl b :: .inl a :: r => if b < a then k t ls r h else k nx ls r h
  | _ => none
def i_cle (t nx : Nat) : mIns X := fun ls st h k => match st with
  | .inl b :: .inl a :: r => if b < a then k nx ls r h else k t ls r h
  | _ => none
def i_null (t nx : Nat) : mIns X := fun ls st h k => match st with
  | .inr (.inr a) :: r => if a = .null then k t ls r h else k nx ls r h
  | _ => none
def i_nonnull (t nx : Nat) : mIns X := fun ls st h k => match st with
  | .inr (.inr a) :: r => if a = .null then k nx ls r h else k t ls r h
  | _ => none
/-- a table: from lo on, the places; else d -/
def mswt {X : Type} (v : Int32) (lo : Int32) (ts : List Nat) (d : Nat) (k : Nat → mR X) : mR X := match ts with
  | [] => k d
  | t :: ts => if v = lo then k t else mswt v (lo + 1) ts d k
def i_sw (lo : Int32) (ts : List Nat) (d : Nat) : mIns X := fun ls st h k => match st with
  | .inl v :: r => mswt v lo ts d (fun j => k j ls r h)
  | _ => none
def mlsw {X : Type} (v : Int32) (ts : List (Int32 × Nat)) (d : Nat) (k : Nat → mR X) : mR X := match ts with
  | [] => k d
  | t :: ts => if v = t.1 then k t.2 else mlsw v ts d k
def i_lsw (ts : List (Int32 × Nat)) (d : Nat) : mIns X := fun ls st h k => match st with
  | .inl v :: r => mlsw v ts d (fun j => k j ls r h)
  | _ => none
def i_retI : mIns X := fun _ st h _ => match st with
  | [.inl a] => some (.inl (some (.inl a)), h)
  | _ => none
/-- a truth value is 0 or 1 -/
def mz (a : Int32) (r : mR X) : mR X := if a = 0 ∨ a = 1 then r else none
def i_retZ : mIns X := fun _ st h _ => match st with
  | [.inl a] => mz a (some (.inl (some (.inl a)), h))
  | _ => none
def i_retL : mIns X := fun _ st h _ => match st with
  | [.inr (.inl a)] => some (.inl (some (.inr (.inl a))), h)
  | _ => none
def i_retR : mIns X := fun _ st h _ => match st with
  | [.inr (.inr a)] => some (.inl (some (.inr (.inr a))), h)
  | _ => none
def i_retV : mIns X := fun _ st h _ => match st with
  | [] => some (.inl none, h)
  | _ => none
def i_thr : mIns X := fun _ st h _ => match st with
  | .inr (.inr a) :: _ => some (.inr a, h)
  | _ => none
/-! calls -/
def bI (r : mR X) (K : Int32 → X → mR X) : mR X := match r with
  | some (.inl (some (.inl n)), h) => K n h
  | some (.inr v, h) => some (.inr v, h)
  | _ => none
def bL (r : mR X) (K : Int64 → X → mR X) : mR X := match r with
  | some (.inl (some (.inr (.inl n))), h) => K n h
  | some (.inr v, h) => some (.inr v, h)
  | _ => none
def bR (r : mR X) (K : Value → X → mR X) : mR X := match r with
  | some (.inl (some (.inr (.inr n))), h) => K n h
  | some (.inr v, h) => some (.inr v, h)
  | _ => none
def bV (r : mR X) (K : X → mR X) : mR X := match r with
  | some (.inl none, h) => K h
  | some (.inr v, h) => some (.inr v, h)
  | _ => none
def mpopN : Nat → List mE → mStk → Option (List mE × mStk)
  | 0, acc, st => some (acc, st)
  | n + 1, acc, e :: st => mpopN n (e :: acc) st
  | _ + 1, _, [] => none
/-- words that lie on the stack -/
def mcat : mStk → Nat
  | [] => 0
  | .inr (.inl _) :: t => 2 + mcat t
  | .inl _ :: t => 1 + mcat t
  | .inr (.inr _) :: t => 1 + mcat t
def i_cI (cf : mCF X) (m n nx : Nat) : mIns X := fun ls st h k => match mpopN n [] st with
  | some (as, r) => cond (Nat.ble (mcat r) 8) (bI (cf m as h) (fun v h => k nx ls (.inl v :: r) h)) none
  | none => none
def i_cL (cf : mCF X) (m n nx : Nat) : mIns X := fun ls st h k => match mpopN n [] st with
  | some (as, r) => cond (Nat.ble (mcat r) 8) (bL (cf m as h) (fun v h => k nx ls (.inr (.inl v) :: r) h)) none
  | none => none
def i_cR (cf : mCF X) (m n nx : Nat) : mIns X := fun ls st h k => match mpopN n [] st with
  | some (as, r) => cond (Nat.ble (mcat r) 8) (bR (cf m as h) (fun v h => k nx ls (.inr (.inr v) :: r) h)) none
  | none => none
def i_cV (cf : mCF X) (m n nx : Nat) : mIns X := fun ls st h k => match mpopN n [] st with
  | some (as, r) => cond (Nat.ble (mcat r) 8) (bV (cf m as h) (fun h => k nx ls r h)) none
  | none => none
/-! the heap's instructions, over what a heap offers -/
def i_get (g : Value → X → (mE → mR X) → mR X) (nx : Nat) : mIns X := fun ls st h k => match st with
  | .inr (.inr v) :: r => g v h (fun e => k nx ls (e :: r) h)
  | _ => none
def i_put (g : Value → mE → X → (X → mR X) → mR X) (nx : Nat) : mIns X := fun ls st h k => match st with
  | e :: .inr (.inr v) :: r => g v e h (fun h => k nx ls r h)
  | _ => none
def i_ald (g : Value → Int32 → X → (mE → mR X) → mR X) (nx : Nat) : mIns X := fun ls st h k => match st with
  | .inl j :: .inr (.inr v) :: r => g v j h (fun e => k nx ls (e :: r) h)
  | _ => none
def i_ast (g : Value → Int32 → mE → X → (X → mR X) → mR X) (nx : Nat) : mIns X := fun ls st h k => match st with
  | e :: .inl j :: .inr (.inr v) :: r => g v j e h (fun h => k nx ls r h)
  | _ => none
def i_len (g : Value → X → (Int32 → mR X) → mR X) (nx : Nat) : mIns X := fun ls st h k => match st with
  | .inr (.inr v) :: r => g v h (fun n => k nx ls (.inl n :: r) h)
  | _ => none
def i_new (g : X → (Value → X → mR X) → mR X) (nx : Nat) : mIns X := fun ls st h k => g h (fun v h => k nx ls (.inr (.inr v) :: st) h)
def i_newa (g : Int32 → X → (Value → X → mR X) → mR X) (nx : Nat) : mIns X := fun ls st h k => match st with
  | .inl n :: r => g n h (fun v h => k nx ls (.inr (.inr v) :: r) h)
  | _ => none
end
/-! how a method begins -/
def mflat : List mE → mLoc
  | [] => []
  | .inl n :: t => some (.inl n) :: mflat t
  | .inr (.inl n) :: t => some (.inr (.inl n)) :: none :: mflat t
  | .inr (.inr v) :: t => some (.inr (.inr v)) :: mflat t
def mEnt : Nat → mLoc → mLoc
  | 0, l => l
  | n + 1, [] => none :: mEnt n []
  | n + 1, a :: l => a :: mEnt n l
noncomputable def mgo {X : Type} (nL : Nat) (tab : mCode X) (as : List mE) (h : X) : mR X := cond (Nat.ble (mflat as).length nL) (mev tab 0 (mEnt nL (mflat as)) [] h) none
