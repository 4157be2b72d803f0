set_option maxRecDepth 100000
/-- the String members that the reference calls, on its one constant -/
def tKW : List Nat := [103, 114, 97, 110, 116, 32, 109, 111, 100, 117, 108, 101, 32, 102, 105, 101, 108, 100, 32, 108, 101, 116, 32, 105, 110, 32, 105, 102, 32, 116, 104, 101, 110, 32, 101, 108, 115, 101, 32, 116, 114, 121, 32, 99, 97, 116, 99, 104, 32, 112, 114, 105, 118, 32, 117, 110, 100, 101, 114, 32, 102, 117, 110, 32, 110, 101, 119, 32, 110, 111, 110, 101, 32, 115, 101, 108, 102, 32, 99, 116, 120, 32, 99, 104, 101, 99, 107, 32, 97, 98, 108, 101, 32, 111, 117, 116, 32, 115, 112, 97, 119, 110, 32, 119, 97, 105, 116, 32, 102, 97, 105, 108, 32]
/-- the first place of c from k on; -1 -/
def tFindN (c : Nat) : List Nat → Nat → Option Nat
  | [], _ => none
  | a :: t, i => if a = c then some i else tFindN c t (i + 1)
def tFind (c : Nat) (l : List Nat) (k : Nat) : Int32 := match tFindN c (l.drop k) k with
  | some i => Int32.ofNat i
  | none => -1
def tStr (m : Nat) (as : List mE) (h : tS) : tR := match m, as with
  | 9000, [.inr (.inr (.retAddr 0))] => some (.inl (some (eI (Int32.ofNat tKW.length))), h)
  | 9001, [.inr (.inr (.retAddr 0)), .inl k] => if k < 0 ∨ tKW.length ≤ k.toNatClampNeg then none else some (.inl (some (eI (Int32.ofNat (nthD 0 tKW k.toNatClampNeg)))), h)
  | 9002, [.inr (.inr (.retAddr 0)), .inl c, .inl k] => some (.inl (some (eI (tFind c.toNatClampNeg tKW k.toNatClampNeg))), h)
  | _, _ => none
/-- a method of the reference, on its one object -/
noncomputable def tgo (nL : Nat) (tab : mCode tS) (as : List mE) (h : tS) : tR := match as with
  | .inr (.inr (.ref 0)) :: _ => mgo nL tab as h
  | _ => none
noncomputable def tTab : List (mCF tS → List mE → tS → tR) := [fun _ _ _ => none,
  fun cf as h => tgo 1 (tX7_thrown cf) as h,
  fun cf as h => tgo 8 (tX7_feed cf) as h,
  fun cf as h => tgo 2 (tX7_end cf) as h,
  fun cf as h => mgo 6 (tX7_in cf) as h,
  fun cf as h => tgo 2 (tX7_program cf) as h,
  fun cf as h => tgo 3 (tX7_next cf) as h,
  fun cf as h => tgo 1 (tX7_isFine cf) as h,
  fun cf as h => tgo 2 (tX7_at cf) as h,
  fun cf as h => mgo 1 (tX7_isLetter cf) as h,
  fun cf as h => tgo 1 (tX7_nextName cf) as h,
  fun cf as h => mgo 1 (tX7_isDigit cf) as h,
  fun cf as h => mgo 1 (tX7_digitOf cf) as h,
  fun cf as h => tgo 2 (tX7_fails cf) as h,
  fun cf as h => tgo 3 (tX7_failsAt cf) as h,
  fun cf as h => mgo 5 (tX7_keywordOf cf) as h,
  fun cf as h => mgo 6 (tX7_codeOf cf) as h,
  fun cf as h => tgo 3 (tX7_nextNumber cf) as h,
  fun cf as h => tgo 8 (tX7_nextPattern cf) as h,
  fun cf as h => tgo 3 (tX7_nextSign cf) as h,
  fun cf as h => tgo 1 (tX7_readAll cf) as h,
  fun cf as h => tgo 2 (tX7_isKey cf) as h,
  fun cf as h => tgo 1 (tX7_grant cf) as h,
  fun cf as h => tgo 3 (tX7_pattern cf) as h,
  fun cf as h => tgo 1 (tX7_misfit cf) as h,
  fun cf as h => tgo 3 (tX7_keepPattern cf) as h,
  fun cf as h => tgo 2 (tX7_sign cf) as h,
  fun cf as h => tgo 2 (tX7_isSign cf) as h,
  fun cf as h => tgo 3 (tX7_right cf) as h,
  fun cf as h => tgo 1 (tX7_isName cf) as h,
  fun cf as h => tgo 2 (tX7_readModule cf) as h,
  fun cf as h => tgo 2 (tX7_key cf) as h,
  fun cf as h => tgo 4 (tX7_moduleOf cf) as h,
  fun cf as h => tgo 2 (tX7_readField cf) as h,
  fun cf as h => tgo 6 (tX7_fieldOf cf) as h,
  fun cf as h => tgo 4 (tX7_fieldsAbove cf) as h,
  fun cf as h => tgo 7 (tX7_readMethod cf) as h,
  fun cf as h => tgo 5 (tX7_newUnit cf) as h,
  fun cf as h => tgo 7 (tX7_newVariable cf) as h,
  fun cf as h => tgo 6 (tX7_parameters cf) as h,
  fun cf as h => tgo 2 (tX7_e cf) as h,
  fun cf as h => tgo 1 (tX7_beginsE cf) as h,
  fun cf as h => tgo 1 (tX7_beginsPrefix cf) as h,
  fun cf as h => tgo 2 (tX7_deeper cf) as h,
  fun cf as h => tgo 2 (tX7_wholeE cf) as h,
  fun cf as h => tgo 4 (tX7_letE cf) as h,
  fun cf as h => tgo 1 (tX7_countsPart cf) as h,
  fun cf as h => tgo 5 (tX7_node cf) as h,
  fun cf as h => tgo 2 (tX7_binds cf) as h,
  fun cf as h => tgo 4 (tX7_gets cf) as h,
  fun cf as h => tgo 3 (tX7_around cf) as h,
  fun cf as h => tgo 2 (tX7_ifE cf) as h,
  fun cf as h => tgo 4 (tX7_tryE cf) as h,
  fun cf as h => tgo 2 (tX7_sum cf) as h,
  fun cf as h => tgo 2 (tX7_product cf) as h,
  fun cf as h => tgo 1 (tX7_anyPrefix cf) as h,
  fun cf as h => tgo 2 (tX7_prefix cf) as h,
  fun cf as h => tgo 2 (tX7_innerPrefix cf) as h,
  fun cf as h => tgo 5 (tX7_priv cf) as h,
  fun cf as h => tgo 4 (tX7_bodyOf cf) as h,
  fun cf as h => tgo 3 (tX7_under cf) as h,
  fun cf as h => tgo 4 (tX7_postfix cf) as h,
  fun cf as h => tgo 2 (tX7_atom cf) as h,
  fun cf as h => tgo 2 (tX7_simpleNumber cf) as h,
  fun cf as h => tgo 3 (tX7_numberOf cf) as h,
  fun cf as h => tgo 3 (tX7_variable cf) as h,
  fun cf as h => tgo 5 (tX7_captures cf) as h,
  fun cf as h => tgo 5 (tX7_simple cf) as h,
  fun cf as h => tgo 2 (tX7_selfAtom cf) as h,
  fun cf as h => tgo 3 (tX7_newAtom cf) as h,
  fun cf as h => tgo 6 (tX7_fun cf) as h,
  fun cf as h => tgo 3 (tX7_row cf) as h,
  fun cf as h => tgo 3 (tX7_asking cf) as h,
  fun cf as h => tgo 4 (tX7_arguments cf) as h,
  fun cf as h => tgo 5 (tX7_dotted cf) as h,
  fun cf as h => tgo 4 (tX7_nameOf cf) as h,
  fun cf as h => tgo 4 (tX7_operation cf) as h,
  fun cf as h => tgo 4 (tX7_findDomains cf) as h,
  fun cf as h => tgo 7 (tX7_covers cf) as h,
  fun cf as h => tgo 4 (tX7_findNeeds cf) as h,
  fun cf as h => tgo 3 (tX7_nodeNeeds cf) as h,
  fun cf as h => tgo 3 (tX7_groupNeeds cf) as h,
  fun cf as h => tgo 3 (tX7_isOfGroup cf) as h,
  fun cf as h => tgo 3 (tX7_areOfOne cf) as h,
  fun cf as h => tgo 3 (tX7_writeAll cf) as h,
  fun cf as h => tgo 3 (tX7_opening cf) as h,
  fun cf as h => tgo 3 (tX7_put cf) as h,
  fun cf as h => tgo 2 (tX7_put_2 cf) as h,
  fun cf as h => tgo 2 (tX7_putNumber cf) as h,
  fun cf as h => tgo 4 (tX7_write cf) as h,
  fun cf as h => mgo 1 (tX7_isSpine cf) as h,
  fun cf as h => tgo 4 (tX7_writeOne cf) as h,
  fun cf as h => tgo 4 (tX7_localOf cf) as h,
  fun cf as h => tgo 2 (tX7_localsOf cf) as h,
  fun cf as h => tgo 4 (tX7_writeUnit cf) as h,
  fun cf as h => tgo 3 (tX7_begins cf) as h,
  fun cf as h => tgo 4 (tX7_writeIf cf) as h,
  fun cf as h => tgo 2 (tX7_gap cf) as h,
  fun cf as h => tgo 3 (tX7_fill cf) as h,
  fun cf as h => tgo 1 (tX7_codeBegin cf) as h,
  fun cf as h => tgo 5 (tX7_writeTry cf) as h,
  fun cf as h => tgo 3 (tX7_writeSpine cf) as h,
  fun cf as h => tgo 2 (tX7_fault cf) as h,
  fun cf as h => tgo 4 (tX7_count cf) as h,
  fun cf as h => tgo 3 (tX7_unit cf) as h,
  fun cf as h => tgo 2 (tX7_isUnit cf) as h,
  fun cf as h => tgo 5 (tX7_code cf) as h,
  fun cf as h => tgo 2 (tX7_number cf) as h,
  fun cf as h => tgo 2 (tX7_domain cf) as h,
  fun cf as h => tgo 8 (tX7_asks cf) as h,
  fun cf as h => tgo 4 (tX7_has cf) as h,
  fun cf as h => tgo 5 (tX7_hasLimit cf) as h,
  fun cf as h => tgo 6 (tX7_hasRight cf) as h,
  fun cf as h => tgo 6 (tX7_hasDomain cf) as h,
  fun cf as h => tgo 5 (tX7_may cf) as h,
  fun cf as h => tgo 6 (tX7_bitsOf cf) as h,
  fun cf as h => tgo 2 (tX7_own cf) as h,
  fun cf as h => tgo 5 (tX7_adds cf) as h,
  fun cf as h => tgo 7 (tX7_goesOn cf) as h,
  fun cf as h => tgo 11 (tX7_run cf) as h,
  fun cf as h => tgo 2 (tX7_newThread cf) as h,
  fun cf as h => tgo 10 (tX7_begin cf) as h,
  fun cf as h => tgo 3 (tX7_failure cf) as h,
  fun cf as h => tgo 6 (tX7_tells cf) as h,
  fun cf as h => tgo 1 (tX7_frameAt cf) as h,
  fun cf as h => tgo 4 (tX7_push cf) as h,
  fun cf as h => tgo 7 (tX7_contextOf cf) as h,
  fun cf as h => tgo 4 (tX7_addProduct cf) as h,
  fun cf as h => tgo 4 (tX7_keepMade cf) as h,
  fun cf as h => tgo 6 (tX7_setLocal cf) as h,
  fun cf as h => tgo 2 (tX7_newObject cf) as h,
  fun cf as h => tgo 4 (tX7_newThing cf) as h,
  fun cf as h => tgo 7 (tX7_step cf) as h,
  fun cf as h => tgo 2 (tX7_wordAt cf) as h,
  fun cf as h => tgo 1 (tX7_pop cf) as h,
  fun cf as h => tgo 3 (tX7_stepIf cf) as h,
  fun cf as h => tgo 4 (tX7_stepTry cf) as h,
  fun cf as h => tgo 2 (tX7_stepBack cf) as h,
  fun cf as h => tgo 5 (tX7_stepOther cf) as h,
  fun cf as h => tgo 6 (tX7_reckons cf) as h,
  fun cf as h => tgo 9 (tX7_stepField cf) as h,
  fun cf as h => tgo 7 (tX7_sends cf) as h,
  fun cf as h => tgo 8 (tX7_methodOf cf) as h,
  fun cf as h => tgo 6 (tX7_applies cf) as h,
  fun cf as h => tgo 5 (tX7_takeCaptured cf) as h,
  fun cf as h => tgo 4 (tX7_closes cf) as h,
  fun cf as h => tgo 5 (tX7_stepPart cf) as h,
  fun cf as h => tgo 8 (tX7_asks_2 cf) as h,
  fun cf as h => tgo 7 (tX7_placeWith cf) as h,
  fun cf as h => tgo 4 (tX7_isGrantedBy cf) as h,
  fun cf as h => tgo 5 (tX7_isGrantedIn cf) as h,
  fun cf as h => tgo 4 (tX7_stepWord cf) as h,
  fun cf as h => tgo 4 (tX7_spawns cf) as h,
  fun cf as h => tgo 2 (tX7_hasWaited cf) as h,
  fun cf as h => tgo 3 (tX7_ready cf) as h,
  fun cf as h => tgo 2 (tX7_canGo cf) as h,
  fun cf as h => tgo 5 (tX7_choose cf) as h,
  fun cf as h => tgo 3 (tX7_going cf) as h,
  fun cf as h => tgo 2 (tX7_result cf) as h,
  fun cf as h => tgo 4 (tX7_event cf) as h,
  fun cf as h => tgo 3 (tX7_thread cf) as h,
  fun cf as h => tgo 4 (tX7_context cf) as h]
noncomputable def cT : Nat → mCF tS
  | 0 => fun _ _ _ => none
  | d + 1 => fun m as h => cond (Nat.ble 9000 m) (cond (Nat.ble 8 d) (tStr m as h) none) (nthD (fun _ _ _ => none) tTab m (cT d) as h)
theorem kX7_thrown (d : Nat) (h : tS) : cT (d + 1) 1 [eR (.ref 0)] h = fX7_thrown (cT d) h := rfl
theorem kX7_feed (d : Nat) (x1 : Int32) (x2 : Int32) (x3 : Int32) (x4 : Int32) (x5 : Int32) (h : tS) : cT (d + 1) 2 [eR (.ref 0), eI x1, eI x2, eI x3, eI x4, eI x5] h = fX7_feed (cT d) x1 x2 x3 x4 x5 h := rfl
theorem kX7_end (d : Nat) (x1 : Int32) (h : tS) : cT (d + 1) 3 [eR (.ref 0), eI x1] h = fX7_end (cT d) x1 h := rfl
theorem kX7_in (d : Nat) (x0 : Int64) (x2 : Int64) (x4 : Int64) (h : tS) : cT (d + 1) 4 [eL x0, eL x2, eL x4] h = fX7_in (cT d) x0 x2 x4 h := rfl
theorem kX7_program (d : Nat) (h : tS) : cT (d + 1) 5 [eR (.ref 0)] h = fX7_program (cT d) h := rfl
theorem kX7_next (d : Nat) (h : tS) : cT (d + 1) 6 [eR (.ref 0)] h = fX7_next (cT d) h := rfl
theorem kX7_isFine (d : Nat) (h : tS) : cT (d + 1) 7 [eR (.ref 0)] h = fX7_isFine (cT d) h := rfl
theorem kX7_at (d : Nat) (x1 : Int32) (h : tS) : cT (d + 1) 8 [eR (.ref 0), eI x1] h = fX7_at (cT d) x1 h := rfl
theorem kX7_isLetter (d : Nat) (x0 : Int32) (h : tS) : cT (d + 1) 9 [eI x0] h = fX7_isLetter (cT d) x0 h := rfl
theorem kX7_nextName (d : Nat) (h : tS) : cT (d + 1) 10 [eR (.ref 0)] h = fX7_nextName (cT d) h := rfl
theorem kX7_isDigit (d : Nat) (x0 : Int32) (h : tS) : cT (d + 1) 11 [eI x0] h = fX7_isDigit (cT d) x0 h := rfl
theorem kX7_digitOf (d : Nat) (x0 : Int32) (h : tS) : cT (d + 1) 12 [eI x0] h = fX7_digitOf (cT d) x0 h := rfl
theorem kX7_fails (d : Nat) (x1 : Int32) (h : tS) : cT (d + 1) 13 [eR (.ref 0), eI x1] h = fX7_fails (cT d) x1 h := rfl
theorem kX7_failsAt (d : Nat) (x1 : Int32) (x2 : Int32) (h : tS) : cT (d + 1) 14 [eR (.ref 0), eI x1, eI x2] h = fX7_failsAt (cT d) x1 x2 h := rfl
theorem kX7_keywordOf (d : Nat) (x0 : Int64) (h : tS) : cT (d + 1) 15 [eL x0] h = fX7_keywordOf (cT d) x0 h := rfl
theorem kX7_codeOf (d : Nat) (x0 : Value) (x1 : Int32) (x2 : Int32) (h : tS) : cT (d + 1) 16 [eR x0, eI x1, eI x2] h = fX7_codeOf (cT d) x0 x1 x2 h := rfl
theorem kX7_nextNumber (d : Nat) (h : tS) : cT (d + 1) 17 [eR (.ref 0)] h = fX7_nextNumber (cT d) h := rfl
theorem kX7_nextPattern (d : Nat) (h : tS) : cT (d + 1) 18 [eR (.ref 0)] h = fX7_nextPattern (cT d) h := rfl
theorem kX7_nextSign (d : Nat) (x1 : Int32) (h : tS) : cT (d + 1) 19 [eR (.ref 0), eI x1] h = fX7_nextSign (cT d) x1 h := rfl
theorem kX7_readAll (d : Nat) (h : tS) : cT (d + 1) 20 [eR (.ref 0)] h = fX7_readAll (cT d) h := rfl
theorem kX7_isKey (d : Nat) (x1 : Int32) (h : tS) : cT (d + 1) 21 [eR (.ref 0), eI x1] h = fX7_isKey (cT d) x1 h := rfl
theorem kX7_grant (d : Nat) (h : tS) : cT (d + 1) 22 [eR (.ref 0)] h = fX7_grant (cT d) h := rfl
theorem kX7_pattern (d : Nat) (x1 : Int32) (x2 : Int32) (h : tS) : cT (d + 1) 23 [eR (.ref 0), eI x1, eI x2] h = fX7_pattern (cT d) x1 x2 h := rfl
theorem kX7_misfit (d : Nat) (h : tS) : cT (d + 1) 24 [eR (.ref 0)] h = fX7_misfit (cT d) h := rfl
theorem kX7_keepPattern (d : Nat) (x1 : Int32) (h : tS) : cT (d + 1) 25 [eR (.ref 0), eI x1] h = fX7_keepPattern (cT d) x1 h := rfl
theorem kX7_sign (d : Nat) (x1 : Int32) (h : tS) : cT (d + 1) 26 [eR (.ref 0), eI x1] h = fX7_sign (cT d) x1 h := rfl
theorem kX7_isSign (d : Nat) (x1 : Int32) (h : tS) : cT (d + 1) 27 [eR (.ref 0), eI x1] h = fX7_isSign (cT d) x1 h := rfl
theorem kX7_right (d : Nat) (x1 : Int32) (h : tS) : cT (d + 1) 28 [eR (.ref 0), eI x1] h = fX7_right (cT d) x1 h := rfl
theorem kX7_isName (d : Nat) (h : tS) : cT (d + 1) 29 [eR (.ref 0)] h = fX7_isName (cT d) h := rfl
theorem kX7_readModule (d : Nat) (h : tS) : cT (d + 1) 30 [eR (.ref 0)] h = fX7_readModule (cT d) h := rfl
theorem kX7_key (d : Nat) (x1 : Int32) (h : tS) : cT (d + 1) 31 [eR (.ref 0), eI x1] h = fX7_key (cT d) x1 h := rfl
theorem kX7_moduleOf (d : Nat) (x1 : Int64) (h : tS) : cT (d + 1) 32 [eR (.ref 0), eL x1] h = fX7_moduleOf (cT d) x1 h := rfl
theorem kX7_readField (d : Nat) (x1 : Int32) (h : tS) : cT (d + 1) 33 [eR (.ref 0), eI x1] h = fX7_readField (cT d) x1 h := rfl
theorem kX7_fieldOf (d : Nat) (x1 : Int32) (x2 : Int64) (h : tS) : cT (d + 1) 34 [eR (.ref 0), eI x1, eL x2] h = fX7_fieldOf (cT d) x1 x2 h := rfl
theorem kX7_fieldsAbove (d : Nat) (x1 : Int32) (h : tS) : cT (d + 1) 35 [eR (.ref 0), eI x1] h = fX7_fieldsAbove (cT d) x1 h := rfl
theorem kX7_readMethod (d : Nat) (x1 : Int32) (h : tS) : cT (d + 1) 36 [eR (.ref 0), eI x1] h = fX7_readMethod (cT d) x1 h := rfl
theorem kX7_newUnit (d : Nat) (x1 : Int32) (x2 : Int32) (x3 : Int32) (h : tS) : cT (d + 1) 37 [eR (.ref 0), eI x1, eI x2, eI x3] h = fX7_newUnit (cT d) x1 x2 x3 h := rfl
theorem kX7_newVariable (d : Nat) (x1 : Int32) (x2 : Int64) (x4 : Int32) (x5 : Int32) (h : tS) : cT (d + 1) 38 [eR (.ref 0), eI x1, eL x2, eI x4, eI x5] h = fX7_newVariable (cT d) x1 x2 x4 x5 h := rfl
theorem kX7_parameters (d : Nat) (x1 : Int32) (x2 : Int32) (h : tS) : cT (d + 1) 39 [eR (.ref 0), eI x1, eI x2] h = fX7_parameters (cT d) x1 x2 h := rfl
theorem kX7_e (d : Nat) (h : tS) : cT (d + 1) 40 [eR (.ref 0)] h = fX7_e (cT d) h := rfl
theorem kX7_beginsE (d : Nat) (h : tS) : cT (d + 1) 41 [eR (.ref 0)] h = fX7_beginsE (cT d) h := rfl
theorem kX7_beginsPrefix (d : Nat) (h : tS) : cT (d + 1) 42 [eR (.ref 0)] h = fX7_beginsPrefix (cT d) h := rfl
theorem kX7_deeper (d : Nat) (x1 : Int32) (h : tS) : cT (d + 1) 43 [eR (.ref 0), eI x1] h = fX7_deeper (cT d) x1 h := rfl
theorem kX7_wholeE (d : Nat) (h : tS) : cT (d + 1) 44 [eR (.ref 0)] h = fX7_wholeE (cT d) h := rfl
theorem kX7_letE (d : Nat) (h : tS) : cT (d + 1) 45 [eR (.ref 0)] h = fX7_letE (cT d) h := rfl
theorem kX7_countsPart (d : Nat) (h : tS) : cT (d + 1) 46 [eR (.ref 0)] h = fX7_countsPart (cT d) h := rfl
theorem kX7_node (d : Nat) (x1 : Int32) (x2 : Int32) (x3 : Int32) (h : tS) : cT (d + 1) 47 [eR (.ref 0), eI x1, eI x2, eI x3] h = fX7_node (cT d) x1 x2 x3 h := rfl
theorem kX7_binds (d : Nat) (x1 : Int32) (h : tS) : cT (d + 1) 48 [eR (.ref 0), eI x1] h = fX7_binds (cT d) x1 h := rfl
theorem kX7_gets (d : Nat) (x1 : Int32) (x2 : Int32) (h : tS) : cT (d + 1) 49 [eR (.ref 0), eI x1, eI x2] h = fX7_gets (cT d) x1 x2 h := rfl
theorem kX7_around (d : Nat) (x1 : Int32) (x2 : Int32) (h : tS) : cT (d + 1) 50 [eR (.ref 0), eI x1, eI x2] h = fX7_around (cT d) x1 x2 h := rfl
theorem kX7_ifE (d : Nat) (h : tS) : cT (d + 1) 51 [eR (.ref 0)] h = fX7_ifE (cT d) h := rfl
theorem kX7_tryE (d : Nat) (h : tS) : cT (d + 1) 52 [eR (.ref 0)] h = fX7_tryE (cT d) h := rfl
theorem kX7_sum (d : Nat) (h : tS) : cT (d + 1) 53 [eR (.ref 0)] h = fX7_sum (cT d) h := rfl
theorem kX7_product (d : Nat) (h : tS) : cT (d + 1) 54 [eR (.ref 0)] h = fX7_product (cT d) h := rfl
theorem kX7_anyPrefix (d : Nat) (h : tS) : cT (d + 1) 55 [eR (.ref 0)] h = fX7_anyPrefix (cT d) h := rfl
theorem kX7_prefix (d : Nat) (h : tS) : cT (d + 1) 56 [eR (.ref 0)] h = fX7_prefix (cT d) h := rfl
theorem kX7_innerPrefix (d : Nat) (h : tS) : cT (d + 1) 57 [eR (.ref 0)] h = fX7_innerPrefix (cT d) h := rfl
theorem kX7_priv (d : Nat) (h : tS) : cT (d + 1) 58 [eR (.ref 0)] h = fX7_priv (cT d) h := rfl
theorem kX7_bodyOf (d : Nat) (x1 : Int32) (h : tS) : cT (d + 1) 59 [eR (.ref 0), eI x1] h = fX7_bodyOf (cT d) x1 h := rfl
theorem kX7_under (d : Nat) (h : tS) : cT (d + 1) 60 [eR (.ref 0)] h = fX7_under (cT d) h := rfl
theorem kX7_postfix (d : Nat) (h : tS) : cT (d + 1) 61 [eR (.ref 0)] h = fX7_postfix (cT d) h := rfl
theorem kX7_atom (d : Nat) (h : tS) : cT (d + 1) 62 [eR (.ref 0)] h = fX7_atom (cT d) h := rfl
theorem kX7_simpleNumber (d : Nat) (h : tS) : cT (d + 1) 63 [eR (.ref 0)] h = fX7_simpleNumber (cT d) h := rfl
theorem kX7_numberOf (d : Nat) (x1 : Int32) (h : tS) : cT (d + 1) 64 [eR (.ref 0), eI x1] h = fX7_numberOf (cT d) x1 h := rfl
theorem kX7_variable (d : Nat) (h : tS) : cT (d + 1) 65 [eR (.ref 0)] h = fX7_variable (cT d) h := rfl
theorem kX7_captures (d : Nat) (x1 : Int32) (h : tS) : cT (d + 1) 66 [eR (.ref 0), eI x1] h = fX7_captures (cT d) x1 h := rfl
theorem kX7_simple (d : Nat) (x1 : Int32) (x2 : Int32) (x3 : Int32) (h : tS) : cT (d + 1) 67 [eR (.ref 0), eI x1, eI x2, eI x3] h = fX7_simple (cT d) x1 x2 x3 h := rfl
theorem kX7_selfAtom (d : Nat) (h : tS) : cT (d + 1) 68 [eR (.ref 0)] h = fX7_selfAtom (cT d) h := rfl
theorem kX7_newAtom (d : Nat) (h : tS) : cT (d + 1) 69 [eR (.ref 0)] h = fX7_newAtom (cT d) h := rfl
theorem kX7_fun (d : Nat) (h : tS) : cT (d + 1) 70 [eR (.ref 0)] h = fX7_fun (cT d) h := rfl
theorem kX7_row (d : Nat) (h : tS) : cT (d + 1) 71 [eR (.ref 0)] h = fX7_row (cT d) h := rfl
theorem kX7_asking (d : Nat) (h : tS) : cT (d + 1) 72 [eR (.ref 0)] h = fX7_asking (cT d) h := rfl
theorem kX7_arguments (d : Nat) (x1 : Int32) (h : tS) : cT (d + 1) 73 [eR (.ref 0), eI x1] h = fX7_arguments (cT d) x1 h := rfl
theorem kX7_dotted (d : Nat) (x1 : Int32) (h : tS) : cT (d + 1) 74 [eR (.ref 0), eI x1] h = fX7_dotted (cT d) x1 h := rfl
theorem kX7_nameOf (d : Nat) (x1 : Int64) (h : tS) : cT (d + 1) 75 [eR (.ref 0), eL x1] h = fX7_nameOf (cT d) x1 h := rfl
theorem kX7_operation (d : Nat) (x1 : Int32) (x2 : Int32) (h : tS) : cT (d + 1) 76 [eR (.ref 0), eI x1, eI x2] h = fX7_operation (cT d) x1 x2 h := rfl
theorem kX7_findDomains (d : Nat) (h : tS) : cT (d + 1) 77 [eR (.ref 0)] h = fX7_findDomains (cT d) h := rfl
theorem kX7_covers (d : Nat) (x1 : Int32) (x2 : Int32) (h : tS) : cT (d + 1) 78 [eR (.ref 0), eI x1, eI x2] h = fX7_covers (cT d) x1 x2 h := rfl
theorem kX7_findNeeds (d : Nat) (h : tS) : cT (d + 1) 79 [eR (.ref 0)] h = fX7_findNeeds (cT d) h := rfl
theorem kX7_nodeNeeds (d : Nat) (x1 : Int32) (h : tS) : cT (d + 1) 80 [eR (.ref 0), eI x1] h = fX7_nodeNeeds (cT d) x1 h := rfl
theorem kX7_groupNeeds (d : Nat) (x1 : Int32) (h : tS) : cT (d + 1) 81 [eR (.ref 0), eI x1] h = fX7_groupNeeds (cT d) x1 h := rfl
theorem kX7_isOfGroup (d : Nat) (x1 : Int32) (x2 : Int32) (h : tS) : cT (d + 1) 82 [eR (.ref 0), eI x1, eI x2] h = fX7_isOfGroup (cT d) x1 x2 h := rfl
theorem kX7_areOfOne (d : Nat) (x1 : Int32) (x2 : Int32) (h : tS) : cT (d + 1) 83 [eR (.ref 0), eI x1, eI x2] h = fX7_areOfOne (cT d) x1 x2 h := rfl
theorem kX7_writeAll (d : Nat) (h : tS) : cT (d + 1) 84 [eR (.ref 0)] h = fX7_writeAll (cT d) h := rfl
theorem kX7_opening (d : Nat) (x1 : Int32) (h : tS) : cT (d + 1) 85 [eR (.ref 0), eI x1] h = fX7_opening (cT d) x1 h := rfl
theorem kX7_put (d : Nat) (x1 : Int32) (x2 : Int32) (h : tS) : cT (d + 1) 86 [eR (.ref 0), eI x1, eI x2] h = fX7_put (cT d) x1 x2 h := rfl
theorem kX7_put_2 (d : Nat) (x1 : Int32) (h : tS) : cT (d + 1) 87 [eR (.ref 0), eI x1] h = fX7_put_2 (cT d) x1 h := rfl
theorem kX7_putNumber (d : Nat) (x1 : Int32) (h : tS) : cT (d + 1) 88 [eR (.ref 0), eI x1] h = fX7_putNumber (cT d) x1 h := rfl
theorem kX7_write (d : Nat) (x1 : Int32) (h : tS) : cT (d + 1) 89 [eR (.ref 0), eI x1] h = fX7_write (cT d) x1 h := rfl
theorem kX7_isSpine (d : Nat) (x0 : Int32) (h : tS) : cT (d + 1) 90 [eI x0] h = fX7_isSpine (cT d) x0 h := rfl
theorem kX7_writeOne (d : Nat) (x1 : Int32) (h : tS) : cT (d + 1) 91 [eR (.ref 0), eI x1] h = fX7_writeOne (cT d) x1 h := rfl
theorem kX7_localOf (d : Nat) (x1 : Int32) (x2 : Int32) (h : tS) : cT (d + 1) 92 [eR (.ref 0), eI x1, eI x2] h = fX7_localOf (cT d) x1 x2 h := rfl
theorem kX7_localsOf (d : Nat) (x1 : Int32) (h : tS) : cT (d + 1) 93 [eR (.ref 0), eI x1] h = fX7_localsOf (cT d) x1 h := rfl
theorem kX7_writeUnit (d : Nat) (x1 : Int32) (x2 : Int32) (h : tS) : cT (d + 1) 94 [eR (.ref 0), eI x1, eI x2] h = fX7_writeUnit (cT d) x1 x2 h := rfl
theorem kX7_begins (d : Nat) (x1 : Int32) (x2 : Int32) (h : tS) : cT (d + 1) 95 [eR (.ref 0), eI x1, eI x2] h = fX7_begins (cT d) x1 x2 h := rfl
theorem kX7_writeIf (d : Nat) (x1 : Int32) (h : tS) : cT (d + 1) 96 [eR (.ref 0), eI x1] h = fX7_writeIf (cT d) x1 h := rfl
theorem kX7_gap (d : Nat) (x1 : Int32) (h : tS) : cT (d + 1) 97 [eR (.ref 0), eI x1] h = fX7_gap (cT d) x1 h := rfl
theorem kX7_fill (d : Nat) (x1 : Int32) (h : tS) : cT (d + 1) 98 [eR (.ref 0), eI x1] h = fX7_fill (cT d) x1 h := rfl
theorem kX7_codeBegin (d : Nat) (h : tS) : cT (d + 1) 99 [eR (.ref 0)] h = fX7_codeBegin (cT d) h := rfl
theorem kX7_writeTry (d : Nat) (x1 : Int32) (x2 : Int32) (h : tS) : cT (d + 1) 100 [eR (.ref 0), eI x1, eI x2] h = fX7_writeTry (cT d) x1 x2 h := rfl
theorem kX7_writeSpine (d : Nat) (x1 : Int32) (h : tS) : cT (d + 1) 101 [eR (.ref 0), eI x1] h = fX7_writeSpine (cT d) x1 h := rfl
theorem kX7_fault (d : Nat) (x1 : Int32) (h : tS) : cT (d + 1) 102 [eR (.ref 0), eI x1] h = fX7_fault (cT d) x1 h := rfl
theorem kX7_count (d : Nat) (x1 : Int32) (h : tS) : cT (d + 1) 103 [eR (.ref 0), eI x1] h = fX7_count (cT d) x1 h := rfl
theorem kX7_unit (d : Nat) (x1 : Int32) (x2 : Int32) (h : tS) : cT (d + 1) 104 [eR (.ref 0), eI x1, eI x2] h = fX7_unit (cT d) x1 x2 h := rfl
theorem kX7_isUnit (d : Nat) (x1 : Int32) (h : tS) : cT (d + 1) 105 [eR (.ref 0), eI x1] h = fX7_isUnit (cT d) x1 h := rfl
theorem kX7_code (d : Nat) (x1 : Int32) (x2 : Int32) (x3 : Int32) (h : tS) : cT (d + 1) 106 [eR (.ref 0), eI x1, eI x2, eI x3] h = fX7_code (cT d) x1 x2 x3 h := rfl
theorem kX7_number (d : Nat) (x1 : Int32) (h : tS) : cT (d + 1) 107 [eR (.ref 0), eI x1] h = fX7_number (cT d) x1 h := rfl
theorem kX7_domain (d : Nat) (x1 : Int32) (h : tS) : cT (d + 1) 108 [eR (.ref 0), eI x1] h = fX7_domain (cT d) x1 h := rfl
theorem kX7_asks (d : Nat) (h : tS) : cT (d + 1) 109 [eR (.ref 0)] h = fX7_asks (cT d) h := rfl
theorem kX7_has (d : Nat) (x1 : Int32) (x2 : Int32) (h : tS) : cT (d + 1) 110 [eR (.ref 0), eI x1, eI x2] h = fX7_has (cT d) x1 x2 h := rfl
theorem kX7_hasLimit (d : Nat) (x1 : Int32) (x2 : Int64) (x4 : Int32) (h : tS) : cT (d + 1) 111 [eR (.ref 0), eI x1, eL x2, eI x4] h = fX7_hasLimit (cT d) x1 x2 x4 h := rfl
theorem kX7_hasRight (d : Nat) (x1 : Int32) (x2 : Int64) (x4 : Int32) (h : tS) : cT (d + 1) 112 [eR (.ref 0), eI x1, eL x2, eI x4] h = fX7_hasRight (cT d) x1 x2 x4 h := rfl
theorem kX7_hasDomain (d : Nat) (x1 : Int32) (x2 : Int64) (x4 : Int32) (h : tS) : cT (d + 1) 113 [eR (.ref 0), eI x1, eL x2, eI x4] h = fX7_hasDomain (cT d) x1 x2 x4 h := rfl
theorem kX7_may (d : Nat) (x1 : Int32) (h : tS) : cT (d + 1) 114 [eR (.ref 0), eI x1] h = fX7_may (cT d) x1 h := rfl
theorem kX7_bitsOf (d : Nat) (x1 : Int64) (x3 : Int32) (h : tS) : cT (d + 1) 115 [eR (.ref 0), eL x1, eI x3] h = fX7_bitsOf (cT d) x1 x3 h := rfl
theorem kX7_own (d : Nat) (x1 : Int32) (h : tS) : cT (d + 1) 116 [eR (.ref 0), eI x1] h = fX7_own (cT d) x1 h := rfl
theorem kX7_adds (d : Nat) (x1 : Int32) (x2 : Int32) (h : tS) : cT (d + 1) 117 [eR (.ref 0), eI x1, eI x2] h = fX7_adds (cT d) x1 x2 h := rfl
theorem kX7_goesOn (d : Nat) (x1 : Int32) (x2 : Int32) (h : tS) : cT (d + 1) 118 [eR (.ref 0), eI x1, eI x2] h = fX7_goesOn (cT d) x1 x2 h := rfl
theorem kX7_run (d : Nat) (x1 : Int32) (x2 : Int32) (x3 : Int32) (x4 : Int32) (h : tS) : cT (d + 1) 119 [eR (.ref 0), eI x1, eI x2, eI x3, eI x4] h = fX7_run (cT d) x1 x2 x3 x4 h := rfl
theorem kX7_newThread (d : Nat) (h : tS) : cT (d + 1) 120 [eR (.ref 0)] h = fX7_newThread (cT d) h := rfl
theorem kX7_begin (d : Nat) (x1 : Int32) (x2 : Int32) (x3 : Int32) (h : tS) : cT (d + 1) 121 [eR (.ref 0), eI x1, eI x2, eI x3] h = fX7_begin (cT d) x1 x2 x3 h := rfl
theorem kX7_failure (d : Nat) (x1 : Int32) (h : tS) : cT (d + 1) 122 [eR (.ref 0), eI x1] h = fX7_failure (cT d) x1 h := rfl
theorem kX7_tells (d : Nat) (x1 : Int32) (x2 : Int32) (x3 : Int32) (x4 : Int32) (h : tS) : cT (d + 1) 123 [eR (.ref 0), eI x1, eI x2, eI x3, eI x4] h = fX7_tells (cT d) x1 x2 x3 x4 h := rfl
theorem kX7_frameAt (d : Nat) (h : tS) : cT (d + 1) 124 [eR (.ref 0)] h = fX7_frameAt (cT d) h := rfl
theorem kX7_push (d : Nat) (x1 : Int32) (x2 : Int32) (h : tS) : cT (d + 1) 125 [eR (.ref 0), eI x1, eI x2] h = fX7_push (cT d) x1 x2 h := rfl
theorem kX7_contextOf (d : Nat) (x1 : Int32) (x2 : Int32) (h : tS) : cT (d + 1) 126 [eR (.ref 0), eI x1, eI x2] h = fX7_contextOf (cT d) x1 x2 h := rfl
theorem kX7_addProduct (d : Nat) (x1 : Int32) (h : tS) : cT (d + 1) 127 [eR (.ref 0), eI x1] h = fX7_addProduct (cT d) x1 h := rfl
theorem kX7_keepMade (d : Nat) (h : tS) : cT (d + 1) 128 [eR (.ref 0)] h = fX7_keepMade (cT d) h := rfl
theorem kX7_setLocal (d : Nat) (x1 : Int32) (x2 : Int32) (x3 : Int32) (x4 : Int32) (x5 : Int32) (h : tS) : cT (d + 1) 129 [eR (.ref 0), eI x1, eI x2, eI x3, eI x4, eI x5] h = fX7_setLocal (cT d) x1 x2 x3 x4 x5 h := rfl
theorem kX7_newObject (d : Nat) (x1 : Int32) (h : tS) : cT (d + 1) 130 [eR (.ref 0), eI x1] h = fX7_newObject (cT d) x1 h := rfl
theorem kX7_newThing (d : Nat) (x1 : Int32) (x2 : Int32) (h : tS) : cT (d + 1) 131 [eR (.ref 0), eI x1, eI x2] h = fX7_newThing (cT d) x1 x2 h := rfl
theorem kX7_step (d : Nat) (h : tS) : cT (d + 1) 132 [eR (.ref 0)] h = fX7_step (cT d) h := rfl
theorem kX7_wordAt (d : Nat) (x1 : Int32) (h : tS) : cT (d + 1) 133 [eR (.ref 0), eI x1] h = fX7_wordAt (cT d) x1 h := rfl
theorem kX7_pop (d : Nat) (h : tS) : cT (d + 1) 134 [eR (.ref 0)] h = fX7_pop (cT d) h := rfl
theorem kX7_stepIf (d : Nat) (x1 : Int32) (x2 : Int32) (h : tS) : cT (d + 1) 135 [eR (.ref 0), eI x1, eI x2] h = fX7_stepIf (cT d) x1 x2 h := rfl
theorem kX7_stepTry (d : Nat) (x1 : Int32) (x2 : Int32) (h : tS) : cT (d + 1) 136 [eR (.ref 0), eI x1, eI x2] h = fX7_stepTry (cT d) x1 x2 h := rfl
theorem kX7_stepBack (d : Nat) (x1 : Int32) (h : tS) : cT (d + 1) 137 [eR (.ref 0), eI x1] h = fX7_stepBack (cT d) x1 h := rfl
theorem kX7_stepOther (d : Nat) (x1 : Int32) (x2 : Int32) (x3 : Int32) (x4 : Int32) (h : tS) : cT (d + 1) 138 [eR (.ref 0), eI x1, eI x2, eI x3, eI x4] h = fX7_stepOther (cT d) x1 x2 x3 x4 h := rfl
theorem kX7_reckons (d : Nat) (x1 : Int32) (h : tS) : cT (d + 1) 139 [eR (.ref 0), eI x1] h = fX7_reckons (cT d) x1 h := rfl
theorem kX7_stepField (d : Nat) (x1 : Int32) (x2 : Int64) (h : tS) : cT (d + 1) 140 [eR (.ref 0), eI x1, eL x2] h = fX7_stepField (cT d) x1 x2 h := rfl
theorem kX7_sends (d : Nat) (x1 : Int64) (x3 : Int32) (h : tS) : cT (d + 1) 141 [eR (.ref 0), eL x1, eI x3] h = fX7_sends (cT d) x1 x3 h := rfl
theorem kX7_methodOf (d : Nat) (x1 : Int32) (x2 : Int64) (x4 : Int32) (h : tS) : cT (d + 1) 142 [eR (.ref 0), eI x1, eL x2, eI x4] h = fX7_methodOf (cT d) x1 x2 x4 h := rfl
theorem kX7_applies (d : Nat) (x1 : Int32) (h : tS) : cT (d + 1) 143 [eR (.ref 0), eI x1] h = fX7_applies (cT d) x1 h := rfl
theorem kX7_takeCaptured (d : Nat) (x1 : Int32) (x2 : Int32) (h : tS) : cT (d + 1) 144 [eR (.ref 0), eI x1, eI x2] h = fX7_takeCaptured (cT d) x1 x2 h := rfl
theorem kX7_closes (d : Nat) (x1 : Int32) (h : tS) : cT (d + 1) 145 [eR (.ref 0), eI x1] h = fX7_closes (cT d) x1 h := rfl
theorem kX7_stepPart (d : Nat) (x1 : Int32) (h : tS) : cT (d + 1) 146 [eR (.ref 0), eI x1] h = fX7_stepPart (cT d) x1 h := rfl
theorem kX7_asks_2 (d : Nat) (x1 : Int32) (x2 : Int32) (h : tS) : cT (d + 1) 147 [eR (.ref 0), eI x1, eI x2] h = fX7_asks_2 (cT d) x1 x2 h := rfl
theorem kX7_placeWith (d : Nat) (x1 : Int32) (x2 : Int32) (h : tS) : cT (d + 1) 148 [eR (.ref 0), eI x1, eI x2] h = fX7_placeWith (cT d) x1 x2 h := rfl
theorem kX7_isGrantedBy (d : Nat) (x1 : Int32) (x2 : Int32) (h : tS) : cT (d + 1) 149 [eR (.ref 0), eI x1, eI x2] h = fX7_isGrantedBy (cT d) x1 x2 h := rfl
theorem kX7_isGrantedIn (d : Nat) (x1 : Int32) (x2 : Int32) (h : tS) : cT (d + 1) 150 [eR (.ref 0), eI x1, eI x2] h = fX7_isGrantedIn (cT d) x1 x2 h := rfl
theorem kX7_stepWord (d : Nat) (x1 : Int32) (h : tS) : cT (d + 1) 151 [eR (.ref 0), eI x1] h = fX7_stepWord (cT d) x1 h := rfl
theorem kX7_spawns (d : Nat) (x1 : Int32) (x2 : Int32) (h : tS) : cT (d + 1) 152 [eR (.ref 0), eI x1, eI x2] h = fX7_spawns (cT d) x1 x2 h := rfl
theorem kX7_hasWaited (d : Nat) (x1 : Int32) (h : tS) : cT (d + 1) 153 [eR (.ref 0), eI x1] h = fX7_hasWaited (cT d) x1 h := rfl
theorem kX7_ready (d : Nat) (h : tS) : cT (d + 1) 154 [eR (.ref 0)] h = fX7_ready (cT d) h := rfl
theorem kX7_canGo (d : Nat) (x1 : Int32) (h : tS) : cT (d + 1) 155 [eR (.ref 0), eI x1] h = fX7_canGo (cT d) x1 h := rfl
theorem kX7_choose (d : Nat) (x1 : Int32) (h : tS) : cT (d + 1) 156 [eR (.ref 0), eI x1] h = fX7_choose (cT d) x1 h := rfl
theorem kX7_going (d : Nat) (h : tS) : cT (d + 1) 157 [eR (.ref 0)] h = fX7_going (cT d) h := rfl
theorem kX7_result (d : Nat) (x1 : Int32) (h : tS) : cT (d + 1) 158 [eR (.ref 0), eI x1] h = fX7_result (cT d) x1 h := rfl
theorem kX7_event (d : Nat) (x1 : Int32) (x2 : Int32) (h : tS) : cT (d + 1) 159 [eR (.ref 0), eI x1, eI x2] h = fX7_event (cT d) x1 x2 h := rfl
theorem kX7_thread (d : Nat) (x1 : Int32) (x2 : Int32) (h : tS) : cT (d + 1) 160 [eR (.ref 0), eI x1, eI x2] h = fX7_thread (cT d) x1 x2 h := rfl
theorem kX7_context (d : Nat) (x1 : Int32) (x2 : Int32) (h : tS) : cT (d + 1) 161 [eR (.ref 0), eI x1, eI x2] h = fX7_context (cT d) x1 x2 h := rfl
