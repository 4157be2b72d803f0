set_option maxRecDepth 100000
/-! what an instruction keeps: a relation of the heap before to the heap behind -/
section
variable {X : Type} {P : X → X → Prop}
def mTm (P : X → X → Prop) (h : X) (f : (Nat → mK X) → mR X) : Prop := (∃ r : mR X, (∀ k, f k = r) ∧ ∀ q, r = some q → P h q.2) ∨ (∃ (j : Nat) (ls : mLoc) (st : mStk) (h' : X), (∀ k, f k = k j ls st h') ∧ P h h')
def mPr (P : X → X → Prop) (e : mIns X) : Prop := ∀ ls st h, mTm P h (e ls st h)
theorem mTm_n {h : X} : mTm P h (fun _ : Nat → mK X => none) := Or.inl ⟨none, fun _ => rfl, fun q h => by cases h⟩
theorem mTm_s (hP : ∀ h, P h h) {h : X} {x : mRes} : mTm P h (fun _ : Nat → mK X => some (x, h)) := Or.inl ⟨some (x, h), fun _ => rfl, fun q h => by cases h; exact hP _⟩
theorem mTm_s' {h h' : X} {x : mRes} (q : P h h') : mTm P h (fun _ : Nat → mK X => some (x, h')) := Or.inl ⟨some (x, h'), fun _ => rfl, fun q h => by cases h; assumption⟩
theorem mTm_k (hP : ∀ h, P h h) (j : Nat) (ls : mLoc) (st : mStk) (h : X) : mTm P h (fun k : Nat → mK X => k j ls st h) := Or.inr ⟨j, ls, st, h, fun _ => rfl, hP h⟩
theorem mTm_k' (j : Nat) (ls : mLoc) (st : mStk) {h h' : X} (q : P h h') : mTm P h (fun k : Nat → mK X => k j ls st h') := Or.inr ⟨j, ls, st, h', fun _ => rfl, q⟩
theorem mTm_ite {c : Prop} [Decidable c] {h : X} {f g : (Nat → mK X) → mR X} (hf : mTm P h f) (hg : mTm P h g) : mTm P h (fun k => if c then f k else g k) := by
  by_cases hc : c
  · simpa [hc] using hf
  · simpa [hc] using hg
theorem mpr_nil : ∀ e ∈ ([] : List (mIns X)), mPr P e := fun _ h => by cases h
theorem mpr_c {e : mIns X} {es : List (mIns X)} (h : mPr P e) (t : ∀ e ∈ es, mPr P e) : ∀ x ∈ e :: es, mPr P x := List.forall_mem_cons.mpr ⟨h, t⟩
theorem mPr_sem (hT : ∀ a b c, P a b → P b c → P a c) {mk : List (Nat × List Nat)} {back : Nat → mK X} {r : mRes × X} (hb : ∀ j ls st h, back j ls st h = some r → P h r.2) :
    ∀ (es : List (mIns X)) (i : Nat), (∀ e ∈ es, mPr P e) → ∀ j ls st h, nthD mdead (msem back mk i es) j ls st h = some r → P h r.2 := by
  intro es
  induction es with
  | nil => intro i _ j ls st h hr; simp [msem, nthD, mdead] at hr
  | cons x es ih =>
    intro i hok j
    have ih' := ih (i + 1) (fun e he => hok e (List.mem_cons_of_mem _ he))
    cases j with
    | zero =>
      intro ls st h hr
      simp only [msem, nthD] at hr
      rcases hok x List.mem_cons_self ls st h with ⟨r0, h1, h2⟩ | ⟨j, ls', st', h', h1, h2⟩
      · rw [h1] at hr
        exact h2 r hr
      · rw [h1] at hr
        unfold mto at hr
        refine hT _ _ _ h2 ?_
        cases hc : Nat.blt j 1000 with
        | true => rw [hc] at hr; exact ih' _ _ _ _ hr
        | false => rw [hc] at hr; exact hb _ _ _ _ hr
    | succ j =>
      intro ls st h hr
      simp only [msem, nthD] at hr
      exact ih' _ _ _ _ hr
theorem mPr_n (hT : ∀ a b c, P a b → P b c → P a c) {tab : mCode X} (hok : ∀ e ∈ tab.2, mPr P e) {r : mRes × X} : ∀ n j ls st h, mptn tab n j ls st h = some r → P h r.2 := by
  intro n
  induction n with
  | zero => intro j ls st h hr; simp [mptn, mdead] at hr
  | succ n ih => intro j ls st h hr; exact mPr_sem hT ih tab.2 0 hok j ls st h hr
theorem mPr_ev (hT : ∀ a b c, P a b → P b c → P a c) {tab : mCode X} (hok : ∀ e ∈ tab.2, mPr P e) {r : mRes × X} {j : Nat} {ls : mLoc} {st : mStk} {h : X} (hr : mev tab j ls st h = some r) : P h r.2 := by
  obtain ⟨n, hn⟩ := mev_some hr
  exact mPr_n hT hok n j ls st h hn
theorem mPr_go (hT : ∀ a b c, P a b → P b c → P a c) {tab : mCode X} (hok : ∀ e ∈ tab.2, mPr P e) {r : mRes × X} {nL : Nat} {as : List mE} {h : X} (hr : mgo nL tab as h = some r) : P h r.2 := by
  unfold mgo at hr
  cases hc : Nat.ble (mflat as).length nL with
  | false => rw [hc] at hr; cases hr
  | true => rw [hc] at hr; exact mPr_ev hT hok hr
theorem p_k {e : mE} {nx : Nat} (hP : ∀ h, P h h) : mPr P (i_k e nx : mIns X) := fun ls st h => mTm_k hP nx ls (e :: st) h
theorem p_go {t : Nat} (hP : ∀ h, P h h) : mPr P (i_go t : mIns X) := fun ls st h => mTm_k hP t ls st h
theorem p_retV (hP : ∀ h, P h h) : mPr P (i_retV : mIns X) := by
  intro ls st h
  rcases st with _ | ⟨a, r⟩ <;> first | exact mTm_n | exact mTm_s hP
theorem p_ldI {i nx : Nat} (hP : ∀ h, P h h) : mPr P (i_ldI i nx : mIns X) := by
  intro ls st h
  have e : nthD none ls i = nthD none ls i := rfl
  unfold i_ldI
  rcases nthD none ls i with _ | (a | (a | a)) <;> first | exact mTm_k hP _ _ _ _ | exact mTm_n
theorem p_ldL {i nx : Nat} (hP : ∀ h, P h h) : mPr P (i_ldL i nx : mIns X) := by
  intro ls st h
  have e : nthD none ls i = nthD none ls i := rfl
  unfold i_ldL
  rcases nthD none ls i with _ | (a | (a | a)) <;> first | exact mTm_k hP _ _ _ _ | exact mTm_n
theorem p_ldR {i nx : Nat} (hP : ∀ h, P h h) : mPr P (i_ldR i nx : mIns X) := by
  intro ls st h
  have e : nthD none ls i = nthD none ls i := rfl
  unfold i_ldR
  rcases nthD none ls i with _ | (a | (a | a)) <;> first | exact mTm_k hP _ _ _ _ | exact mTm_n
theorem p_inc {i nx : Nat} {c : Int32} (hP : ∀ h, P h h) : mPr P (i_inc i c nx : mIns X) := by
  intro ls st h
  have e : nthD none ls i = nthD none ls i := rfl
  unfold i_inc
  rcases nthD none ls i with _ | (a | (a | a)) <;> first | exact mTm_k hP _ _ _ _ | exact mTm_n
theorem p_stI {i nx : Nat} (hP : ∀ h, P h h) : mPr P (i_stI i nx : mIns X) := by
  intro ls st h
  rcases st with _ | ⟨(a | (a | a)), r⟩ <;> first | exact mTm_k hP _ _ _ _ | first | exact mTm_n | exact mTm_s hP
theorem p_stL {i nx : Nat} (hP : ∀ h, P h h) : mPr P (i_stL i nx : mIns X) := by
  intro ls st h
  rcases st with _ | ⟨(a | (a | a)), r⟩ <;> first | exact mTm_k hP _ _ _ _ | first | exact mTm_n | exact mTm_s hP
theorem p_stR {i nx : Nat} (hP : ∀ h, P h h) : mPr P (i_stR i nx : mIns X) := by
  intro ls st h
  rcases st with _ | ⟨(a | (a | a)), r⟩ <;> first | exact mTm_k hP _ _ _ _ | first | exact mTm_n | exact mTm_s hP
theorem p_i2l {nx : Nat} (hP : ∀ h, P h h) : mPr P (i_i2l nx : mIns X) := by
  intro ls st h
  rcases st with _ | ⟨(a | (a | a)), r⟩ <;> first | exact mTm_k hP _ _ _ _ | first | exact mTm_n | exact mTm_s hP
theorem p_l2i {nx : Nat} (hP : ∀ h, P h h) : mPr P (i_l2i nx : mIns X) := by
  intro ls st h
  rcases st with _ | ⟨(a | (a | a)), r⟩ <;> first | exact mTm_k hP _ _ _ _ | first | exact mTm_n | exact mTm_s hP
theorem p_pop {nx : Nat} (hP : ∀ h, P h h) : mPr P (i_pop nx : mIns X) := by
  intro ls st h
  rcases st with _ | ⟨(a | (a | a)), r⟩ <;> first | exact mTm_k hP _ _ _ _ | first | exact mTm_n | exact mTm_s hP
theorem p_dup {nx : Nat} (hP : ∀ h, P h h) : mPr P (i_dup nx : mIns X) := by
  intro ls st h
  rcases st with _ | ⟨(a | (a | a)), r⟩ <;> first | exact mTm_k hP _ _ _ _ | first | exact mTm_n | exact mTm_s hP
theorem p_retI (hP : ∀ h, P h h) : mPr P (i_retI : mIns X) := by
  intro ls st h
  rcases st with _ | ⟨(a | (a | a)), _ | ⟨b, r⟩⟩ <;> first | exact mTm_n | exact mTm_s hP
theorem p_retL (hP : ∀ h, P h h) : mPr P (i_retL : mIns X) := by
  intro ls st h
  rcases st with _ | ⟨(a | (a | a)), _ | ⟨b, r⟩⟩ <;> first | exact mTm_n | exact mTm_s hP
theorem p_retR (hP : ∀ h, P h h) : mPr P (i_retR : mIns X) := by
  intro ls st h
  rcases st with _ | ⟨(a | (a | a)), _ | ⟨b, r⟩⟩ <;> first | exact mTm_n | exact mTm_s hP
theorem p_thr (hP : ∀ h, P h h) : mPr P (i_thr : mIns X) := by
  intro ls st h
  rcases st with _ | ⟨(a | (a | a)), r⟩ <;> first | exact mTm_k hP _ _ _ _ | first | exact mTm_n | exact mTm_s hP
theorem p_retZ (hP : ∀ h, P h h) : mPr P (i_retZ : mIns X) := by
  intro ls st h
  rcases st with _ | ⟨(a | (a | a)), _ | ⟨b, r⟩⟩ <;> first | exact mTm_ite (c := a = 0 ∨ a = 1) (mTm_s hP) mTm_n | exact mTm_n
theorem p_i1 {f : Int32 → Int32} {nx : Nat} (hP : ∀ h, P h h) : mPr P (i_i1 f nx : mIns X) := by
  intro ls st h
  rcases st with _ | ⟨(a | (a | a)), r⟩ <;> first | exact mTm_k hP _ _ _ _ | first | exact mTm_n | exact mTm_s hP
theorem p_i2 {f : Int32 → Int32 → Int32} {nx : Nat} (hP : ∀ h, P h h) : mPr P (i_i2 f nx : mIns X) := by
  intro ls st h
  rcases st with _ | ⟨(a | (a | a)), _ | ⟨(b | (b | b)), r⟩⟩ <;> first | exact mTm_k hP _ _ _ _ | exact mTm_n
theorem p_l2 {f : Int64 → Int64 → Int64} {nx : Nat} (hP : ∀ h, P h h) : mPr P (i_l2 f nx : mIns X) := by
  intro ls st h
  rcases st with _ | ⟨(a | (a | a)), _ | ⟨(b | (b | b)), r⟩⟩ <;> first | exact mTm_k hP _ _ _ _ | exact mTm_n
theorem p_ls {f : Int64 → Int32 → Int64} {nx : Nat} (hP : ∀ h, P h h) : mPr P (i_ls f nx : mIns X) := by
  intro ls st h
  rcases st with _ | ⟨(a | (a | a)), _ | ⟨(b | (b | b)), r⟩⟩ <;> first | exact mTm_k hP _ _ _ _ | exact mTm_n
theorem p_lcmp {nx : Nat} (hP : ∀ h, P h h) : mPr P (i_lcmp nx : mIns X) := by
  intro ls st h
  rcases st with _ | ⟨(a | (a | a)), _ | ⟨(b | (b | b)), r⟩⟩ <;> first | exact mTm_k hP _ _ _ _ | exact mTm_n
theorem p_dupx1 {nx : Nat} (hP : ∀ h, P h h) : mPr P (i_dupx1 nx : mIns X) := by
  intro ls st h
  rcases st with _ | ⟨(a | (a | a)), _ | ⟨(b | (b | b)), r⟩⟩ <;> first | exact mTm_k hP _ _ _ _ | exact mTm_n
theorem p_dup2 {nx : Nat} (hP : ∀ h, P h h) : mPr P (i_dup2 nx : mIns X) := by
  intro ls st h
  rcases st with _ | ⟨(a | (a | a)), _ | ⟨(b | (b | b)), r⟩⟩ <;> first | exact mTm_k hP _ _ _ _ | exact mTm_n
theorem p_dv {f : Int32 → Int32 → Int32} {nx : Nat} (hP : ∀ h, P h h) : mPr P (i_dv f nx : mIns X) := by
  intro ls st h
  rcases st with _ | ⟨(b | (b | b)), _ | ⟨(a | (a | a)), r⟩⟩ <;> first | exact mTm_ite (c := b = 0) (mTm_n) (mTm_k hP nx ls (.inl (f a b) :: r) h) | exact mTm_n
theorem p_ifeq {t nx : Nat} (hP : ∀ h, P h h) : mPr P (i_ifeq t nx : mIns X) := by
  intro ls st h
  rcases st with _ | ⟨(a | (a | a)), r⟩ <;> first | exact mTm_ite (c := a = 0) (mTm_k hP t ls r h) (mTm_k hP nx ls r h) | exact mTm_n
theorem p_ifne {t nx : Nat} (hP : ∀ h, P h h) : mPr P (i_ifne t nx : mIns X) := by
  intro ls st h
  rcases st with _ | ⟨(a | (a | a)), r⟩ <;> first | exact mTm_ite (c := a = 0) (mTm_k hP nx ls r h) (mTm_k hP t ls r h) | exact mTm_n
theorem p_iflt {t nx : Nat} (hP : ∀ h, P h h) : mPr P (i_iflt t nx : mIns X) := by
  intro ls st h
  rcases st with _ | ⟨(a | (a | a)), r⟩ <;> first | exact mTm_ite (c := a < 0) (mTm_k hP t ls r h) (mTm_k hP nx ls r h) | exact mTm_n
theorem p_ifge {t nx : Nat} (hP : ∀ h, P h h) : mPr P (i_ifge t nx : mIns X) := by
  intro ls st h
  rcases st with _ | ⟨(a | (a | a)), r⟩ <;> first | exact mTm_ite (c := a < 0) (mTm_k hP nx ls r h) (mTm_k hP t ls r h) | exact mTm_n
theorem p_ifgt {t nx : Nat} (hP : ∀ h, P h h) : mPr P (i_ifgt t nx : mIns X) := by
  intro ls st h
  rcases st with _ | ⟨(a | (a | a)), r⟩ <;> first | exact mTm_ite (c := 0 < a) (mTm_k hP t ls r h) (mTm_k hP nx ls r h) | exact mTm_n
theorem p_ifle {t nx : Nat} (hP : ∀ h, P h h) : mPr P (i_ifle t nx : mIns X) := by
  intro ls st h
  rcases st with _ | ⟨(a | (a | a)), r⟩ <;> first | exact mTm_ite (c := 0 < a) (mTm_k hP nx ls r h) (mTm_k hP t ls r h) | exact mTm_n
theorem p_null {t nx : Nat} (hP : ∀ h, P h h) : mPr P (i_null t nx : mIns X) := by
  intro ls st h
  rcases st with _ | ⟨(a | (a | a)), r⟩ <;> first | exact mTm_ite (c := a = .null) (mTm_k hP t ls r h) (mTm_k hP nx ls r h) | exact mTm_n
theorem p_nonnull {t nx : Nat} (hP : ∀ h, P h h) : mPr P (i_nonnull t nx : mIns X) := by
  intro ls st h
  rcases st with _ | ⟨(a | (a | a)), r⟩ <;> first | exact mTm_ite (c := a = .null) (mTm_k hP nx ls r h) (mTm_k hP t ls r h) | exact mTm_n
theorem p_ceq {t nx : Nat} (hP : ∀ h, P h h) : mPr P (i_ceq t nx : mIns X) := by
  intro ls st h
  rcases st with _ | ⟨(b | (b | b)), _ | ⟨(a | (a | a)), r⟩⟩ <;> first | exact mTm_ite (c := a = b) (mTm_k hP t ls r h) (mTm_k hP nx ls r h) | exact mTm_n
theorem p_cne {t nx : Nat} (hP : ∀ h, P h h) : mPr P (i_cne t nx : mIns X) := by
  intro ls st h
  rcases st with _ | ⟨(b | (b | b)), _ | ⟨(a | (a | a)), r⟩⟩ <;> first | exact mTm_ite (c := a = b) (mTm_k hP nx ls r h) (mTm_k hP t ls r h) | exact mTm_n
theorem p_clt {t nx : Nat} (hP : ∀ h, P h h) : mPr P (i_clt t nx : mIns X) := by
  intro ls st h
  rcases st with _ | ⟨(b | (b | b)), _ | ⟨(a | (a | a)), r⟩⟩ <;> first | exact mTm_ite (c := a < b) (mTm_k hP t ls r h) (mTm_k hP nx ls r h) | exact mTm_n
theorem p_cge {t nx : Nat} (hP : ∀ h, P h h) : mPr P (i_cge t nx : mIns X) := by
  intro ls st h
  rcases st with _ | ⟨(b | (b | b)), _ | ⟨(a | (a | a)), r⟩⟩ <;> first | exact mTm_ite (c := a < b) (mTm_k hP nx ls r h) (mTm_k hP t ls r h) | exact mTm_n
theorem p_cgt {t nx : Nat} (hP : ∀ h, P h h) : mPr P (i_cgt t nx : mIns X) := by
  intro ls st h
  rcases st with _ | ⟨(b | (b | b)), _ | ⟨(a | (a | a)), r⟩⟩ <;> first | exact mTm_ite (c := b < a) (mTm_k hP t ls r h) (mTm_k hP nx ls r h) | exact mTm_n
theorem p_cle {t nx : Nat} (hP : ∀ h, P h h) : mPr P (i_cle t nx : mIns X) := by
  intro ls st h
  rcases st with _ | ⟨(b | (b | b)), _ | ⟨(a | (a | a)), r⟩⟩ <;> first | exact mTm_ite (c := b < a) (mTm_k hP nx ls r h) (mTm_k hP t ls r h) | exact mTm_n
theorem p_aeq {t nx : Nat} (hP : ∀ h, P h h) : mPr P (i_aeq t nx : mIns X) := by
  intro ls st h
  rcases st with _ | ⟨(b | (b | b)), _ | ⟨(a | (a | a)), r⟩⟩ <;> first | exact mTm_ite (c := a = b) (mTm_k hP t ls r h) (mTm_k hP nx ls r h) | exact mTm_n
theorem p_ane {t nx : Nat} (hP : ∀ h, P h h) : mPr P (i_ane t nx : mIns X) := by
  intro ls st h
  rcases st with _ | ⟨(b | (b | b)), _ | ⟨(a | (a | a)), r⟩⟩ <;> first | exact mTm_ite (c := a = b) (mTm_k hP nx ls r h) (mTm_k hP t ls r h) | exact mTm_n
theorem mTm_swt (v : Int32) (ls : mLoc) (r : mStk) (h : X) (d : Nat) (hP : ∀ h, P h h) : ∀ (ts : List Nat) (lo : Int32), mTm P h (fun k : Nat → mK X => mswt v lo ts d (fun j => k j ls r h)) := by
  intro ts
  induction ts with
  | nil => intro lo; exact mTm_k hP d ls r h
  | cons t ts ih => intro lo; exact mTm_ite (c := v = lo) (mTm_k hP t ls r h) (ih (lo + 1))
theorem mTm_lsw (v : Int32) (ls : mLoc) (r : mStk) (h : X) (d : Nat) (hP : ∀ h, P h h) : ∀ (ts : List (Int32 × Nat)), mTm P h (fun k : Nat → mK X => mlsw v ts d (fun j => k j ls r h)) := by
  intro ts
  induction ts with
  | nil => exact mTm_k hP d ls r h
  | cons t ts ih => exact mTm_ite (c := v = t.1) (mTm_k hP t.2 ls r h) ih
theorem p_sw {lo : Int32} {ts : List Nat} {d : Nat} (hP : ∀ h, P h h) : mPr P (i_sw lo ts d : mIns X) := by
  intro ls st h
  rcases st with _ | ⟨(a | (a | a)), r⟩ <;> first | exact mTm_swt a ls r h d hP ts lo | exact mTm_n
theorem p_lsw {ts : List (Int32 × Nat)} {d : Nat} (hP : ∀ h, P h h) : mPr P (i_lsw ts d : mIns X) := by
  intro ls st h
  rcases st with _ | ⟨(a | (a | a)), r⟩ <;> first | exact mTm_lsw a ls r h d hP ts | exact mTm_n
theorem p_cI (hP : ∀ h, P h h) {cf : mCF X} {m n nx : Nat} (hf : ∀ m as h r, cf m as h = some r → P h r.2) : mPr P (i_cI cf m n nx) := by
  intro ls st h
  unfold i_cI
  rcases mpopN n [] st with _ | ⟨as, r⟩
  · exact mTm_n
  · dsimp only
    cases Nat.ble (mcat r) 8
    · exact mTm_n
    have h9 := hf m as h
    generalize cf m as h = z9 at h9 ⊢
    rcases z9 with _ | ⟨((_ | (a | (a | a))) | a), h'⟩ <;> first | exact mTm_n | exact mTm_k' _ _ _ (h9 (_, h') rfl) | exact mTm_s' (h9 (_, h') rfl)
theorem p_hI {P : cS → cS → Prop} (hP : ∀ h, P h h) {cf : mCF cS} {m n nx t : Nat} (hf : ∀ m as h r, cf m as h = some r → P h r.2) : mPr P (i_hI cf m n nx t) := by
  intro ls st h
  unfold i_hI
  rcases mpopN n [] st with _ | ⟨as, r⟩
  · exact mTm_n
  · dsimp only
    cases Nat.ble (mcat r) 8
    · exact mTm_n
    have h9 := hf m as h
    generalize cf m as h = z9 at h9 ⊢
    rcases z9 with _ | ⟨((_ | (a | (a | a))) | a), h'⟩ <;> first | exact mTm_n | exact mTm_k' _ _ _ (h9 (_, h') rfl) | exact mTm_s' (h9 (_, h') rfl) | (rcases a with _ | _ | _ | _ | _ | b | _ <;> first | exact mTm_n | exact mTm_ite (c := cCl h' b = 11) (mTm_k' _ _ _ (h9 (_, h') rfl)) mTm_n)
theorem p_cL (hP : ∀ h, P h h) {cf : mCF X} {m n nx : Nat} (hf : ∀ m as h r, cf m as h = some r → P h r.2) : mPr P (i_cL cf m n nx) := by
  intro ls st h
  unfold i_cL
  rcases mpopN n [] st with _ | ⟨as, r⟩
  · exact mTm_n
  · dsimp only
    cases Nat.ble (mcat r) 8
    · exact mTm_n
    have h9 := hf m as h
    generalize cf m as h = z9 at h9 ⊢
    rcases z9 with _ | ⟨((_ | (a | (a | a))) | a), h'⟩ <;> first | exact mTm_n | exact mTm_k' _ _ _ (h9 (_, h') rfl) | exact mTm_s' (h9 (_, h') rfl)
theorem p_hL {P : cS → cS → Prop} (hP : ∀ h, P h h) {cf : mCF cS} {m n nx t : Nat} (hf : ∀ m as h r, cf m as h = some r → P h r.2) : mPr P (i_hL cf m n nx t) := by
  intro ls st h
  unfold i_hL
  rcases mpopN n [] st with _ | ⟨as, r⟩
  · exact mTm_n
  · dsimp only
    cases Nat.ble (mcat r) 8
    · exact mTm_n
    have h9 := hf m as h
    generalize cf m as h = z9 at h9 ⊢
    rcases z9 with _ | ⟨((_ | (a | (a | a))) | a), h'⟩ <;> first | exact mTm_n | exact mTm_k' _ _ _ (h9 (_, h') rfl) | exact mTm_s' (h9 (_, h') rfl) | (rcases a with _ | _ | _ | _ | _ | b | _ <;> first | exact mTm_n | exact mTm_ite (c := cCl h' b = 11) (mTm_k' _ _ _ (h9 (_, h') rfl)) mTm_n)
theorem p_cR (hP : ∀ h, P h h) {cf : mCF X} {m n nx : Nat} (hf : ∀ m as h r, cf m as h = some r → P h r.2) : mPr P (i_cR cf m n nx) := by
  intro ls st h
  unfold i_cR
  rcases mpopN n [] st with _ | ⟨as, r⟩
  · exact mTm_n
  · dsimp only
    cases Nat.ble (mcat r) 8
    · exact mTm_n
    have h9 := hf m as h
    generalize cf m as h = z9 at h9 ⊢
    rcases z9 with _ | ⟨((_ | (a | (a | a))) | a), h'⟩ <;> first | exact mTm_n | exact mTm_k' _ _ _ (h9 (_, h') rfl) | exact mTm_s' (h9 (_, h') rfl)
theorem p_hR {P : cS → cS → Prop} (hP : ∀ h, P h h) {cf : mCF cS} {m n nx t : Nat} (hf : ∀ m as h r, cf m as h = some r → P h r.2) : mPr P (i_hR cf m n nx t) := by
  intro ls st h
  unfold i_hR
  rcases mpopN n [] st with _ | ⟨as, r⟩
  · exact mTm_n
  · dsimp only
    cases Nat.ble (mcat r) 8
    · exact mTm_n
    have h9 := hf m as h
    generalize cf m as h = z9 at h9 ⊢
    rcases z9 with _ | ⟨((_ | (a | (a | a))) | a), h'⟩ <;> first | exact mTm_n | exact mTm_k' _ _ _ (h9 (_, h') rfl) | exact mTm_s' (h9 (_, h') rfl) | (rcases a with _ | _ | _ | _ | _ | b | _ <;> first | exact mTm_n | exact mTm_ite (c := cCl h' b = 11) (mTm_k' _ _ _ (h9 (_, h') rfl)) mTm_n)
theorem p_cV (hP : ∀ h, P h h) {cf : mCF X} {m n nx : Nat} (hf : ∀ m as h r, cf m as h = some r → P h r.2) : mPr P (i_cV cf m n nx) := by
  intro ls st h
  unfold i_cV
  rcases mpopN n [] st with _ | ⟨as, r⟩
  · exact mTm_n
  · dsimp only
    cases Nat.ble (mcat r) 8
    · exact mTm_n
    have h9 := hf m as h
    generalize cf m as h = z9 at h9 ⊢
    rcases z9 with _ | ⟨((_ | (a | (a | a))) | a), h'⟩ <;> first | exact mTm_n | exact mTm_k' _ _ _ (h9 (_, h') rfl) | exact mTm_s' (h9 (_, h') rfl)
theorem p_hV {P : cS → cS → Prop} (hP : ∀ h, P h h) {cf : mCF cS} {m n nx t : Nat} (hf : ∀ m as h r, cf m as h = some r → P h r.2) : mPr P (i_hV cf m n nx t) := by
  intro ls st h
  unfold i_hV
  rcases mpopN n [] st with _ | ⟨as, r⟩
  · exact mTm_n
  · dsimp only
    cases Nat.ble (mcat r) 8
    · exact mTm_n
    have h9 := hf m as h
    generalize cf m as h = z9 at h9 ⊢
    rcases z9 with _ | ⟨((_ | (a | (a | a))) | a), h'⟩ <;> first | exact mTm_n | exact mTm_k' _ _ _ (h9 (_, h') rfl) | exact mTm_s' (h9 (_, h') rfl) | (rcases a with _ | _ | _ | _ | _ | b | _ <;> first | exact mTm_n | exact mTm_ite (c := cCl h' b = 11) (mTm_k' _ _ _ (h9 (_, h') rfl)) mTm_n)
theorem p_qeq (hP : ∀ h, P h h) {t nx : Nat} : mPr P (i_qeq t nx : mIns X) := by
  intro ls st h
  rcases st with _ | ⟨(b | (b | b)), _ | ⟨(a | (a | a)), r⟩⟩ <;> first | exact mTm_ite (c := misR a = true ∧ misR b = true) (mTm_ite (c := a = b) (mTm_k hP t ls r h) (mTm_k hP nx ls r h)) mTm_n | exact mTm_n
theorem p_qne (hP : ∀ h, P h h) {t nx : Nat} : mPr P (i_qne t nx : mIns X) := by
  intro ls st h
  rcases st with _ | ⟨(b | (b | b)), _ | ⟨(a | (a | a)), r⟩⟩ <;> first | exact mTm_ite (c := misR a = true ∧ misR b = true) (mTm_ite (c := a = b) (mTm_k hP nx ls r h) (mTm_k hP t ls r h)) mTm_n | exact mTm_n
/-- what a heap offers, and how it goes on -/
def mW1 (P : X → X → Prop) (h : X) (g : (X → mR X) → mR X) : Prop := (∃ h', (∀ K, g K = K h') ∧ P h h') ∨ ∀ K, g K = none
def mW2 (P : X → X → Prop) (h : X) (g : (Value → X → mR X) → mR X) : Prop := (∃ v h', (∀ K, g K = K v h') ∧ P h h') ∨ ∀ K, g K = none
theorem mW1_n {h : X} : mW1 P h (fun _ => none) := Or.inr fun _ => rfl
theorem mW1_k {h h' : X} (q : P h h') : mW1 P h (fun K => K h') := Or.inl ⟨h', fun _ => rfl, q⟩
theorem mW1_ite {c : Prop} [Decidable c] {h : X} {f g : (X → mR X) → mR X} (hf : mW1 P h f) (hg : mW1 P h g) : mW1 P h (fun K => if c then f K else g K) := by
  by_cases hc : c
  · simpa [hc] using hf
  · simpa [hc] using hg
theorem mTm_O1 (hP : ∀ h, P h h) {A : Type} {h : X} {g : (A → mR X) → mR X} (w : mO1 g) {nx : Nat} {ls : mLoc} {st : A → mStk} : mTm P h (fun k : Nat → mK X => g (fun a => k nx ls (st a) h)) := by
  rcases w with ⟨a, q⟩ | q
  · exact Or.inr ⟨nx, ls, st a, h, fun k => q _, hP h⟩
  · exact Or.inl ⟨none, fun k => q _, fun _ h => by cases h⟩
theorem mTm_W1 {h : X} {g : (X → mR X) → mR X} (w : mW1 P h g) {nx : Nat} {ls : mLoc} {st : mStk} : mTm P h (fun k : Nat → mK X => g (fun h => k nx ls st h)) := by
  rcases w with ⟨h', q, p⟩ | q
  · exact Or.inr ⟨nx, ls, st, h', fun k => q _, p⟩
  · exact Or.inl ⟨none, fun k => q _, fun _ h => by cases h⟩
theorem mTm_W2 {h : X} {g : (Value → X → mR X) → mR X} (w : mW2 P h g) {nx : Nat} {ls : mLoc} {st : Value → mStk} : mTm P h (fun k : Nat → mK X => g (fun v h => k nx ls (st v) h)) := by
  rcases w with ⟨v, h', q, p⟩ | q
  · exact Or.inr ⟨nx, ls, st v, h', fun k => q _, p⟩
  · exact Or.inl ⟨none, fun k => q _, fun _ h => by cases h⟩
theorem p_get (hP : ∀ h, P h h) {g : Value → X → (mE → mR X) → mR X} {nx : Nat} (o : ∀ v h, mO1 (g v h)) : mPr P (i_get g nx) := by
  intro ls st h
  rcases st with _ | ⟨(a | (a | a)), r⟩ <;> first | exact mTm_n | exact mTm_O1 hP (o a h) (st := fun e => e :: r)
theorem p_len (hP : ∀ h, P h h) {g : Value → X → (Int32 → mR X) → mR X} {nx : Nat} (o : ∀ v h, mO1 (g v h)) : mPr P (i_len g nx) := by
  intro ls st h
  rcases st with _ | ⟨(a | (a | a)), r⟩ <;> first | exact mTm_n | exact mTm_O1 hP (o a h) (st := fun e => .inl e :: r)
theorem p_ald (hP : ∀ h, P h h) {g : Value → Int32 → X → (mE → mR X) → mR X} {nx : Nat} (o : ∀ v j h, mO1 (g v j h)) : mPr P (i_ald g nx) := by
  intro ls st h
  rcases st with _ | ⟨(j | (j | j)), _ | ⟨(a | (a | a)), r⟩⟩ <;> first | exact mTm_n | exact mTm_O1 hP (o a j h) (st := fun e => e :: r)
theorem p_put {g : Value → mE → X → (X → mR X) → mR X} {nx : Nat} (o : ∀ v e h, mW1 P h (g v e h)) : mPr P (i_put g nx) := by
  intro ls st h
  rcases st with _ | ⟨e, _ | ⟨(a | (a | a)), r⟩⟩ <;> first | exact mTm_n | exact mTm_W1 (o a e h)
theorem p_ast {g : Value → Int32 → mE → X → (X → mR X) → mR X} {nx : Nat} (o : ∀ v j e h, mW1 P h (g v j e h)) : mPr P (i_ast g nx) := by
  intro ls st h
  rcases st with _ | ⟨e, _ | ⟨(j | (j | j)), _ | ⟨(a | (a | a)), r⟩⟩⟩ <;> first | exact mTm_n | exact mTm_W1 (o a j e h)
theorem p_new {g : X → (Value → X → mR X) → mR X} {nx : Nat} (o : ∀ h, mW2 P h (g h)) : mPr P (i_new g nx) := by
  intro ls st h
  exact mTm_W2 (o h) (st := fun v => .inr (.inr v) :: st)
theorem p_newa {g : Int32 → X → (Value → X → mR X) → mR X} {nx : Nat} (o : ∀ n h, mW2 P h (g n h)) : mPr P (i_newa g nx) := by
  intro ls st h
  rcases st with _ | ⟨(a | (a | a)), r⟩ <;> first | exact mTm_n | exact mTm_W2 (o a h) (st := fun v => .inr (.inr v) :: r)
end
section
variable {P : cS → cS → Prop}
theorem p_thq (hP : ∀ h, P h h) : mPr P i_thq := by
  intro ls st h
  rcases st with _ | ⟨(a | (a | a)), r⟩
  · exact mTm_n
  · exact mTm_n
  · exact mTm_n
  · rcases a with _ | _ | _ | _ | _ | a | _ <;> first | exact mTm_n | exact mTm_ite (c := cisO (cCl h a) = true) (mTm_s hP) mTm_n
/-- what a relation must bear to hold over every run of the component -/
def cBear (P : cS → cS → Prop) : Prop := (∀ h, P h h) ∧ (∀ a b c, P a b → P b c → P a c) ∧ (∀ h x a n, cCl h a = x / 100 → P h (csI h x a n)) ∧ (∀ h x a n, cCl h a = x / 100 → P h (csL h x a n)) ∧ (∀ h x a w, cCl h a = x / 100 → misR w = true → P h (csR h x a w)) ∧
  (∀ h a j n, 1 ≤ cak (cCl h a) ∧ cak (cCl h a) ≤ 7 → j < cLen h a → P h (csAI h a j n)) ∧ (∀ h a j n, 1 ≤ cak (cCl h a) ∧ cak (cCl h a) ≤ 7 → j < cLen h a → P h (csAL h a j n)) ∧ (∀ h a j w, 1 ≤ cak (cCl h a) ∧ cak (cCl h a) ≤ 7 → j < cLen h a → ceok h (cak (cCl h a)) w = true → P h (csAR h a j w)) ∧
  (∀ h t, P h (cmore (csCl h (cNx h) t) (csz t))) ∧ (∀ h t n, n < 2 ^ 31 → P h (cmore (csLen (csCl h (cNx h) t) (cNx h) n) n)) ∧ ∀ m as h r, cPrim m as h = some r → P h r.2
theorem w_cpI (hb : cBear P) (x : Nat) : ∀ v e h, mW1 P h (g_cpI x v e h) := by
  intro v e h
  rcases e with (n | (n | n)) <;> rcases v with _ | _ | _ | _ | _ | a | _ <;> first
    | exact mW1_n
    | (by_cases q : cCl h a = x / 100
       · exact Or.inl ⟨_, fun K => if_pos q, hb.2.2.1 _ _ _ _ q⟩
       · exact Or.inr fun K => if_neg q)
theorem w_cpZ (hb : cBear P) (x : Nat) : ∀ v e h, mW1 P h (g_cpZ x v e h) := by
  intro v e h
  rcases e with (n | (n | n)) <;> rcases v with _ | _ | _ | _ | _ | a | _ <;> first
    | exact mW1_n
    | (by_cases q : cCl h a = x / 100 ∧ (n = 0 ∨ n = 1)
       · exact Or.inl ⟨_, fun K => if_pos q, hb.2.2.1 _ _ _ _ q.1⟩
       · exact Or.inr fun K => if_neg q)
theorem w_cpL (hb : cBear P) (x : Nat) : ∀ v e h, mW1 P h (g_cpL x v e h) := by
  intro v e h
  rcases e with (n | (n | n)) <;> rcases v with _ | _ | _ | _ | _ | a | _ <;> first
    | exact mW1_n
    | (by_cases q : cCl h a = x / 100
       · exact Or.inl ⟨_, fun K => if_pos q, hb.2.2.2.1 _ _ _ _ q⟩
       · exact Or.inr fun K => if_neg q)
theorem w_cpR (hb : cBear P) (x : Nat) : ∀ v e h, mW1 P h (g_cpR x v e h) := by
  intro v e h
  rcases e with (n | (n | n)) <;> rcases v with _ | _ | _ | _ | _ | a | _ <;> first
    | exact mW1_n
    | (by_cases q : cCl h a = x / 100 ∧ misR n = true
       · exact Or.inl ⟨_, fun K => if_pos q, hb.2.2.2.2.1 _ _ _ _ q.1 q.2⟩
       · exact Or.inr fun K => if_neg q)
theorem w_csaI (hb : cBear P) : ∀ v j e h, mW1 P h (g_csaI v j e h) := by
  intro v j e h
  rcases e with (n | (n | n)) <;> rcases v with _ | _ | _ | _ | _ | a | _ <;> first
    | exact mW1_n
    | (by_cases q : cak (cCl h a) = 2 ∧ ¬ (j < 0 ∨ cLen h a ≤ j.toNatClampNeg)
       · exact Or.inl ⟨_, fun K => if_pos q, hb.2.2.2.2.2.1 _ _ _ _ (by omega) (Nat.not_le.mp fun z => q.2 (Or.inr z))⟩
       · exact Or.inr fun K => if_neg q)
theorem w_csaB (hb : cBear P) : ∀ v j e h, mW1 P h (g_csaB v j e h) := by
  intro v j e h
  rcases e with (n | (n | n)) <;> rcases v with _ | _ | _ | _ | _ | a | _ <;> first
    | exact mW1_n
    | (by_cases q : cak (cCl h a) = 1 ∧ ¬ (j < 0 ∨ cLen h a ≤ j.toNatClampNeg)
       · exact Or.inl ⟨_, fun K => if_pos q, hb.2.2.2.2.2.1 _ _ _ _ (by omega) (Nat.not_le.mp fun z => q.2 (Or.inr z))⟩
       · exact Or.inr fun K => if_neg q)
theorem w_csaL (hb : cBear P) : ∀ v j e h, mW1 P h (g_csaL v j e h) := by
  intro v j e h
  rcases e with (n | (n | n)) <;> rcases v with _ | _ | _ | _ | _ | a | _ <;> first
    | exact mW1_n
    | (by_cases q : cak (cCl h a) = 3 ∧ ¬ (j < 0 ∨ cLen h a ≤ j.toNatClampNeg)
       · exact Or.inl ⟨_, fun K => if_pos q, hb.2.2.2.2.2.2.1 _ _ _ _ (by omega) (Nat.not_le.mp fun z => q.2 (Or.inr z))⟩
       · exact Or.inr fun K => if_neg q)
theorem w_csaR (hb : cBear P) : ∀ v j e h, mW1 P h (g_csaR v j e h) := by
  intro v j e h
  rcases e with (n | (n | n)) <;> rcases v with _ | _ | _ | _ | _ | a | _ <;> first
    | exact mW1_n
    | (by_cases q : ceok h (cak (cCl h a)) n = true ∧ 4 ≤ cak (cCl h a) ∧ cak (cCl h a) ≤ 7 ∧ ¬ (j < 0 ∨ cLen h a ≤ j.toNatClampNeg)
       · exact Or.inl ⟨_, fun K => if_pos q, hb.2.2.2.2.2.2.2.1 _ _ _ _ ⟨by omega, q.2.2.1⟩ (Nat.not_le.mp fun z => q.2.2.2 (Or.inr z)) q.1⟩
       · exact Or.inr fun K => if_neg q)
theorem w_cnw (hb : cBear P) (t : Nat) : ∀ h, mW2 P h (g_cnw t h) := fun h => Or.inl ⟨_, _, fun _ => rfl, hb.2.2.2.2.2.2.2.2.1 h t⟩
theorem w_cna (hb : cBear P) (t : Nat) : ∀ n h, mW2 P h (g_cna t n h) := by
  intro n h
  by_cases q : n < 0 ∨ 1000000 < n
  · exact Or.inr (fun K => if_pos q)
  · exact Or.inl ⟨_, _, fun K => if_neg q, hb.2.2.2.2.2.2.2.2.2.1 h t _ (by
      have h1 := n.toInt_lt
      have h2 : n.toNatClampNeg = n.toInt.toNat := rfl
      omega)⟩
end
