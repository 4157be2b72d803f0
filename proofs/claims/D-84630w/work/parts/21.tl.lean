/-! every instruction goes on at one point, or ends -/
section
variable {X : Type}
def mTl (f : (Nat → mK X) → mR X) : Prop := (∃ r : mR X, ∀ k, f k = r) ∨ (∃ (j : Nat) (ls : mLoc) (st : mStk) (h : X), ∀ k, f k = k j ls st h)
theorem mTail_of {e : mIns X} (h : ∀ ls st h, mTl (e ls st h)) : mTail e := h
theorem mTl_r (r : mR X) : mTl (fun _ : Nat → mK X => r) := Or.inl ⟨r, fun _ => rfl⟩
theorem mTl_k (j : Nat) (ls : mLoc) (st : mStk) (h : X) : mTl (fun k : Nat → mK X => k j ls st h) := Or.inr ⟨j, ls, st, h, fun _ => rfl⟩
theorem mTl_ite {c : Prop} [Decidable c] {f g : (Nat → mK X) → mR X} (hf : mTl f) (hg : mTl g) : mTl (fun k => if c then f k else g k) := by
  by_cases hc : c
  · simpa [hc] using hf
  · simpa [hc] using hg
theorem mtl_nil : ∀ e ∈ ([] : List (mIns X)), mTail e := fun _ h => by cases h
theorem mtl_c {e : mIns X} {es : List (mIns X)} (h : mTail e) (t : ∀ e ∈ es, mTail e) : ∀ x ∈ e :: es, mTail x := List.forall_mem_cons.mpr ⟨h, t⟩
theorem l_k {e : mE} {nx : Nat} : mTail (i_k e nx : mIns X) := fun ls st h => mTl_k nx ls (e :: st) h
theorem l_go {t : Nat} : mTail (i_go t : mIns X) := fun ls st h => mTl_k t ls st h
theorem l_retV : mTail (i_retV : mIns X) := by
  intro ls st h
  rcases st with _ | ⟨a, r⟩ <;> exact mTl_r _
theorem l_ldI {i nx : Nat} : mTail (i_ldI i nx : mIns X) := by
  intro ls st h
  have e : nthD none ls i = nthD none ls i := rfl
  unfold i_ldI
  rcases nthD none ls i with _ | (a | (a | a)) <;> first | exact mTl_k _ _ _ _ | exact mTl_r none
theorem l_ldL {i nx : Nat} : mTail (i_ldL i nx : mIns X) := by
  intro ls st h
  have e : nthD none ls i = nthD none ls i := rfl
  unfold i_ldL
  rcases nthD none ls i with _ | (a | (a | a)) <;> first | exact mTl_k _ _ _ _ | exact mTl_r none
theorem l_ldR {i nx : Nat} : mTail (i_ldR i nx : mIns X) := by
  intro ls st h
  have e : nthD none ls i = nthD none ls i := rfl
  unfold i_ldR
  rcases nthD none ls i with _ | (a | (a | a)) <;> first | exact mTl_k _ _ _ _ | exact mTl_r none
theorem l_inc {i nx : Nat} {c : Int32} : mTail (i_inc i c nx : mIns X) := by
  intro ls st h
  have e : nthD none ls i = nthD none ls i := rfl
  unfold i_inc
  rcases nthD none ls i with _ | (a | (a | a)) <;> first | exact mTl_k _ _ _ _ | exact mTl_r none
theorem l_stI {i nx : Nat} : mTail (i_stI i nx : mIns X) := by
  intro ls st h
  rcases st with _ | ⟨(a | (a | a)), r⟩ <;> first | exact mTl_k _ _ _ _ | exact mTl_r _
theorem l_stL {i nx : Nat} : mTail (i_stL i nx : mIns X) := by
  intro ls st h
  rcases st with _ | ⟨(a | (a | a)), r⟩ <;> first | exact mTl_k _ _ _ _ | exact mTl_r _
theorem l_stR {i nx : Nat} : mTail (i_stR i nx : mIns X) := by
  intro ls st h
  rcases st with _ | ⟨(a | (a | a)), r⟩ <;> first | exact mTl_k _ _ _ _ | exact mTl_r _
theorem l_i2l {nx : Nat} : mTail (i_i2l nx : mIns X) := by
  intro ls st h
  rcases st with _ | ⟨(a | (a | a)), r⟩ <;> first | exact mTl_k _ _ _ _ | exact mTl_r _
theorem l_l2i {nx : Nat} : mTail (i_l2i nx : mIns X) := by
  intro ls st h
  rcases st with _ | ⟨(a | (a | a)), r⟩ <;> first | exact mTl_k _ _ _ _ | exact mTl_r _
theorem l_pop {nx : Nat} : mTail (i_pop nx : mIns X) := by
  intro ls st h
  rcases st with _ | ⟨(a | (a | a)), r⟩ <;> first | exact mTl_k _ _ _ _ | exact mTl_r _
theorem l_dup {nx : Nat} : mTail (i_dup nx : mIns X) := by
  intro ls st h
  rcases st with _ | ⟨(a | (a | a)), r⟩ <;> first | exact mTl_k _ _ _ _ | exact mTl_r _
theorem l_retI : mTail (i_retI : mIns X) := by
  intro ls st h
  rcases st with _ | ⟨(a | (a | a)), _ | ⟨b, r⟩⟩ <;> exact mTl_r _
theorem l_retL : mTail (i_retL : mIns X) := by
  intro ls st h
  rcases st with _ | ⟨(a | (a | a)), _ | ⟨b, r⟩⟩ <;> exact mTl_r _
theorem l_retR : mTail (i_retR : mIns X) := by
  intro ls st h
  rcases st with _ | ⟨(a | (a | a)), _ | ⟨b, r⟩⟩ <;> exact mTl_r _
theorem l_thr : mTail (i_thr : mIns X) := by
  intro ls st h
  rcases st with _ | ⟨(a | (a | a)), r⟩ <;> first | exact mTl_k _ _ _ _ | exact mTl_r _
theorem l_retZ : mTail (i_retZ : mIns X) := by
  intro ls st h
  rcases st with _ | ⟨(a | (a | a)), _ | ⟨b, r⟩⟩ <;> exact mTl_r _
theorem l_i1 {f : Int32 → Int32} {nx : Nat} : mTail (i_i1 f nx : mIns X) := by
  intro ls st h
  rcases st with _ | ⟨(a | (a | a)), r⟩ <;> first | exact mTl_k _ _ _ _ | exact mTl_r _
theorem l_i2 {f : Int32 → Int32 → Int32} {nx : Nat} : mTail (i_i2 f nx : mIns X) := by
  intro ls st h
  rcases st with _ | ⟨(a | (a | a)), _ | ⟨(b | (b | b)), r⟩⟩ <;> first | exact mTl_k _ _ _ _ | exact mTl_r none
theorem l_l2 {f : Int64 → Int64 → Int64} {nx : Nat} : mTail (i_l2 f nx : mIns X) := by
  intro ls st h
  rcases st with _ | ⟨(a | (a | a)), _ | ⟨(b | (b | b)), r⟩⟩ <;> first | exact mTl_k _ _ _ _ | exact mTl_r none
theorem l_ls {f : Int64 → Int32 → Int64} {nx : Nat} : mTail (i_ls f nx : mIns X) := by
  intro ls st h
  rcases st with _ | ⟨(a | (a | a)), _ | ⟨(b | (b | b)), r⟩⟩ <;> first | exact mTl_k _ _ _ _ | exact mTl_r none
theorem l_lcmp {nx : Nat} : mTail (i_lcmp nx : mIns X) := by
  intro ls st h
  rcases st with _ | ⟨(a | (a | a)), _ | ⟨(b | (b | b)), r⟩⟩ <;> first | exact mTl_k _ _ _ _ | exact mTl_r none
theorem l_dupx1 {nx : Nat} : mTail (i_dupx1 nx : mIns X) := by
  intro ls st h
  rcases st with _ | ⟨(a | (a | a)), _ | ⟨(b | (b | b)), r⟩⟩ <;> first | exact mTl_k _ _ _ _ | exact mTl_r none
theorem l_dup2 {nx : Nat} : mTail (i_dup2 nx : mIns X) := by
  intro ls st h
  rcases st with _ | ⟨(a | (a | a)), _ | ⟨(b | (b | b)), r⟩⟩ <;> first | exact mTl_k _ _ _ _ | exact mTl_r none
theorem l_dv {f : Int32 → Int32 → Int32} {nx : Nat} : mTail (i_dv f nx : mIns X) := by
  intro ls st h
  rcases st with _ | ⟨(b | (b | b)), _ | ⟨(a | (a | a)), r⟩⟩ <;> first | exact mTl_ite (c := b = 0) (mTl_r none) (mTl_k nx ls (.inl (f a b) :: r) h) | exact mTl_r none
theorem l_ifeq {t nx : Nat} : mTail (i_ifeq t nx : mIns X) := by
  intro ls st h
  rcases st with _ | ⟨(a | (a | a)), r⟩ <;> first | exact mTl_ite (c := a = 0) (mTl_k t ls r h) (mTl_k nx ls r h) | exact mTl_r none
theorem l_ifne {t nx : Nat} : mTail (i_ifne t nx : mIns X) := by
  intro ls st h
  rcases st with _ | ⟨(a | (a | a)), r⟩ <;> first | exact mTl_ite (c := a = 0) (mTl_k nx ls r h) (mTl_k t ls r h) | exact mTl_r none
theorem l_iflt {t nx : Nat} : mTail (i_iflt t nx : mIns X) := by
  intro ls st h
  rcases st with _ | ⟨(a | (a | a)), r⟩ <;> first | exact mTl_ite (c := a < 0) (mTl_k t ls r h) (mTl_k nx ls r h) | exact mTl_r none
theorem l_ifge {t nx : Nat} : mTail (i_ifge t nx : mIns X) := by
  intro ls st h
  rcases st with _ | ⟨(a | (a | a)), r⟩ <;> first | exact mTl_ite (c := a < 0) (mTl_k nx ls r h) (mTl_k t ls r h) | exact mTl_r none
theorem l_ifgt {t nx : Nat} : mTail (i_ifgt t nx : mIns X) := by
  intro ls st h
  rcases st with _ | ⟨(a | (a | a)), r⟩ <;> first | exact mTl_ite (c := 0 < a) (mTl_k t ls r h) (mTl_k nx ls r h) | exact mTl_r none
theorem l_ifle {t nx : Nat} : mTail (i_ifle t nx : mIns X) := by
  intro ls st h
  rcases st with _ | ⟨(a | (a | a)), r⟩ <;> first | exact mTl_ite (c := 0 < a) (mTl_k nx ls r h) (mTl_k t ls r h) | exact mTl_r none
theorem l_null {t nx : Nat} : mTail (i_null t nx : mIns X) := by
  intro ls st h
  rcases st with _ | ⟨(a | (a | a)), r⟩ <;> first | exact mTl_ite (c := a = .null) (mTl_k t ls r h) (mTl_k nx ls r h) | exact mTl_r none
theorem l_nonnull {t nx : Nat} : mTail (i_nonnull t nx : mIns X) := by
  intro ls st h
  rcases st with _ | ⟨(a | (a | a)), r⟩ <;> first | exact mTl_ite (c := a = .null) (mTl_k nx ls r h) (mTl_k t ls r h) | exact mTl_r none
theorem l_ceq {t nx : Nat} : mTail (i_ceq t nx : mIns X) := by
  intro ls st h
  rcases st with _ | ⟨(b | (b | b)), _ | ⟨(a | (a | a)), r⟩⟩ <;> first | exact mTl_ite (c := a = b) (mTl_k t ls r h) (mTl_k nx ls r h) | exact mTl_r none
theorem l_cne {t nx : Nat} : mTail (i_cne t nx : mIns X) := by
  intro ls st h
  rcases st with _ | ⟨(b | (b | b)), _ | ⟨(a | (a | a)), r⟩⟩ <;> first | exact mTl_ite (c := a = b) (mTl_k nx ls r h) (mTl_k t ls r h) | exact mTl_r none
theorem l_clt {t nx : Nat} : mTail (i_clt t nx : mIns X) := by
  intro ls st h
  rcases st with _ | ⟨(b | (b | b)), _ | ⟨(a | (a | a)), r⟩⟩ <;> first | exact mTl_ite (c := a < b) (mTl_k t ls r h) (mTl_k nx ls r h) | exact mTl_r none
theorem l_cge {t nx : Nat} : mTail (i_cge t nx : mIns X) := by
  intro ls st h
  rcases st with _ | ⟨(b | (b | b)), _ | ⟨(a | (a | a)), r⟩⟩ <;> first | exact mTl_ite (c := a < b) (mTl_k nx ls r h) (mTl_k t ls r h) | exact mTl_r none
theorem l_cgt {t nx : Nat} : mTail (i_cgt t nx : mIns X) := by
  intro ls st h
  rcases st with _ | ⟨(b | (b | b)), _ | ⟨(a | (a | a)), r⟩⟩ <;> first | exact mTl_ite (c := b < a) (mTl_k t ls r h) (mTl_k nx ls r h) | exact mTl_r none
theorem l_cle {t nx : Nat} : mTail (i_cle t nx : mIns X) := by
  intro ls st h
  rcases st with _ | ⟨(b | (b | b)), _ | ⟨(a | (a | a)), r⟩⟩ <;> first | exact mTl_ite (c := b < a) (mTl_k nx ls r h) (mTl_k t ls r h) | exact mTl_r none
theorem l_aeq {t nx : Nat} : mTail (i_aeq t nx : mIns X) := by
  intro ls st h
  rcases st with _ | ⟨(b | (b | b)), _ | ⟨(a | (a | a)), r⟩⟩ <;> first | exact mTl_ite (c := a = b) (mTl_k t ls r h) (mTl_k nx ls r h) | exact mTl_r none
theorem l_ane {t nx : Nat} : mTail (i_ane t nx : mIns X) := by
  intro ls st h
  rcases st with _ | ⟨(b | (b | b)), _ | ⟨(a | (a | a)), r⟩⟩ <;> first | exact mTl_ite (c := a = b) (mTl_k nx ls r h) (mTl_k t ls r h) | exact mTl_r none
theorem mTl_swt (v : Int32) (ls : mLoc) (r : mStk) (h : X) (d : Nat) : ∀ (ts : List Nat) (lo : Int32), mTl (fun k : Nat → mK X => mswt v lo ts d (fun j => k j ls r h)) := by
  intro ts
  induction ts with
  | nil => intro lo; exact mTl_k d ls r h
  | cons t ts ih => intro lo; exact mTl_ite (c := v = lo) (mTl_k t ls r h) (ih (lo + 1))
theorem mTl_lsw (v : Int32) (ls : mLoc) (r : mStk) (h : X) (d : Nat) : ∀ (ts : List (Int32 × Nat)), mTl (fun k : Nat → mK X => mlsw v ts d (fun j => k j ls r h)) := by
  intro ts
  induction ts with
  | nil => exact mTl_k d ls r h
  | cons t ts ih => exact mTl_ite (c := v = t.1) (mTl_k t.2 ls r h) ih
theorem l_sw {lo : Int32} {ts : List Nat} {d : Nat} : mTail (i_sw lo ts d : mIns X) := by
  intro ls st h
  rcases st with _ | ⟨(a | (a | a)), r⟩ <;> first | exact mTl_swt a ls r h d ts lo | exact mTl_r none
theorem l_lsw {ts : List (Int32 × Nat)} {d : Nat} : mTail (i_lsw ts d : mIns X) := by
  intro ls st h
  rcases st with _ | ⟨(a | (a | a)), r⟩ <;> first | exact mTl_lsw a ls r h d ts | exact mTl_r none
theorem l_cI {cf : mCF X} {m n nx : Nat} : mTail (i_cI cf m n nx) := by
  intro ls st h
  unfold i_cI
  rcases mpopN n [] st with _ | ⟨as, r⟩
  · exact mTl_r none
  · dsimp only
    cases Nat.ble (mcat r) 8
    · exact mTl_r none
    rcases cf m as h with _ | ⟨((_ | (a | (a | a))) | a), h'⟩ <;> first | exact mTl_k _ _ _ _ | exact mTl_r _
theorem l_cL {cf : mCF X} {m n nx : Nat} : mTail (i_cL cf m n nx) := by
  intro ls st h
  unfold i_cL
  rcases mpopN n [] st with _ | ⟨as, r⟩
  · exact mTl_r none
  · dsimp only
    cases Nat.ble (mcat r) 8
    · exact mTl_r none
    rcases cf m as h with _ | ⟨((_ | (a | (a | a))) | a), h'⟩ <;> first | exact mTl_k _ _ _ _ | exact mTl_r _
theorem l_cR {cf : mCF X} {m n nx : Nat} : mTail (i_cR cf m n nx) := by
  intro ls st h
  unfold i_cR
  rcases mpopN n [] st with _ | ⟨as, r⟩
  · exact mTl_r none
  · dsimp only
    cases Nat.ble (mcat r) 8
    · exact mTl_r none
    rcases cf m as h with _ | ⟨((_ | (a | (a | a))) | a), h'⟩ <;> first | exact mTl_k _ _ _ _ | exact mTl_r _
theorem l_cV {cf : mCF X} {m n nx : Nat} : mTail (i_cV cf m n nx) := by
  intro ls st h
  unfold i_cV
  rcases mpopN n [] st with _ | ⟨as, r⟩
  · exact mTl_r none
  · dsimp only
    cases Nat.ble (mcat r) 8
    · exact mTl_r none
    rcases cf m as h with _ | ⟨((_ | (a | (a | a))) | a), h'⟩ <;> first | exact mTl_k _ _ _ _ | exact mTl_r _
/-- what a heap offers: a value, and one way on -/
def mO1 {A : Type} (g : (A → mR X) → mR X) : Prop := (∃ a, ∀ K, g K = K a) ∨ ∀ K, g K = none
def mO2 {A B : Type} (g : (A → B → mR X) → mR X) : Prop := (∃ a b, ∀ K, g K = K a b) ∨ ∀ K, g K = none
theorem mTl_O1 {A : Type} {g : (A → mR X) → mR X} (o : mO1 g) {f : (Nat → mK X) → A → mR X} (hf : ∀ a, mTl (fun k => f k a)) : mTl (fun k => g (f k)) := by
  rcases o with ⟨a, h⟩ | h
  · rcases hf a with ⟨r, hr⟩ | ⟨j, ls, st, x, hr⟩
    · exact Or.inl ⟨r, fun k => (h _).trans (hr k)⟩
    · exact Or.inr ⟨j, ls, st, x, fun k => (h _).trans (hr k)⟩
  · exact Or.inl ⟨none, fun k => h _⟩
theorem mTl_O2 {A B : Type} {g : (A → B → mR X) → mR X} (o : mO2 g) {f : (Nat → mK X) → A → B → mR X} (hf : ∀ a b, mTl (fun k => f k a b)) : mTl (fun k => g (f k)) := by
  rcases o with ⟨a, b, h⟩ | h
  · rcases hf a b with ⟨r, hr⟩ | ⟨j, ls, st, x, hr⟩
    · exact Or.inl ⟨r, fun k => (h _).trans (hr k)⟩
    · exact Or.inr ⟨j, ls, st, x, fun k => (h _).trans (hr k)⟩
  · exact Or.inl ⟨none, fun k => h _⟩
theorem l_get {g : Value → X → (mE → mR X) → mR X} {nx : Nat} (o : ∀ v h, mO1 (g v h)) : mTail (i_get g nx) := by
  intro ls st h
  rcases st with _ | ⟨(a | (a | a)), r⟩ <;> first | exact mTl_O1 (o a h) (f := fun k e => k nx ls (e :: r) h) (fun e => mTl_k nx ls (e :: r) h) | exact mTl_r none
theorem l_len {g : Value → X → (Int32 → mR X) → mR X} {nx : Nat} (o : ∀ v h, mO1 (g v h)) : mTail (i_len g nx) := by
  intro ls st h
  rcases st with _ | ⟨(a | (a | a)), r⟩ <;> first | exact mTl_O1 (o a h) (f := fun k e => k nx ls (.inl e :: r) h) (fun e => mTl_k nx ls (.inl e :: r) h) | exact mTl_r none
theorem l_put {g : Value → mE → X → (X → mR X) → mR X} {nx : Nat} (o : ∀ v e h, mO1 (g v e h)) : mTail (i_put g nx) := by
  intro ls st h
  rcases st with _ | ⟨e, _ | ⟨(a | (a | a)), r⟩⟩ <;> first | exact mTl_O1 (o a e h) (f := fun k h => k nx ls r h) (fun h => mTl_k nx ls r h) | exact mTl_r none
theorem l_ald {g : Value → Int32 → X → (mE → mR X) → mR X} {nx : Nat} (o : ∀ v j h, mO1 (g v j h)) : mTail (i_ald g nx) := by
  intro ls st h
  rcases st with _ | ⟨(j | (j | j)), _ | ⟨(a | (a | a)), r⟩⟩ <;> first | exact mTl_O1 (o a j h) (f := fun k e => k nx ls (e :: r) h) (fun e => mTl_k nx ls (e :: r) h) | exact mTl_r none
theorem l_ast {g : Value → Int32 → mE → X → (X → mR X) → mR X} {nx : Nat} (o : ∀ v j e h, mO1 (g v j e h)) : mTail (i_ast g nx) := by
  intro ls st h
  rcases st with _ | ⟨e, _ | ⟨(j | (j | j)), _ | ⟨(a | (a | a)), r⟩⟩⟩ <;> first | exact mTl_O1 (o a j e h) (f := fun k h => k nx ls r h) (fun h => mTl_k nx ls r h) | exact mTl_r none
theorem l_new {g : X → (Value → X → mR X) → mR X} {nx : Nat} (o : ∀ h, mO2 (g h)) : mTail (i_new g nx) := by
  intro ls st h
  exact mTl_O2 (o h) (f := fun k v h => k nx ls (.inr (.inr v) :: st) h) (fun v h => mTl_k nx ls (.inr (.inr v) :: st) h)
theorem l_newa {g : Int32 → X → (Value → X → mR X) → mR X} {nx : Nat} (o : ∀ n h, mO2 (g n h)) : mTail (i_newa g nx) := by
  intro ls st h
  rcases st with _ | ⟨(a | (a | a)), r⟩ <;> first | exact mTl_O2 (o a h) (f := fun k v h => k nx ls (.inr (.inr v) :: r) h) (fun v h => mTl_k nx ls (.inr (.inr v) :: r) h) | exact mTl_r none
end
