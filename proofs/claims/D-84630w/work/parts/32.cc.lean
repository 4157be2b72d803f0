set_option maxRecDepth 100000
/-- a method of a class, on an object of it -/
noncomputable def cgo (c nL : Nat) (tab : mCode cS) (as : List mE) (h : cS) : cRes := match as with
  | .inr (.inr v) :: _ => cck h v c (mgo nL tab as h)
  | _ => none
noncomputable def cTab : List (List (mCF cS → List mE → cS → cRes)) := [[],
  [fun cf as h => cgo 1 1 (tX1_init cf) as h,
    fun cf as h => cgo 1 8 (tX1_feed cf) as h,
    fun cf as h => cgo 1 2 (tX1_end cf) as h,
    fun cf as h => cgo 1 2 (tX1_fault cf) as h,
    fun cf as h => cgo 1 2 (tX1_count cf) as h,
    fun cf as h => cgo 1 3 (tX1_needing cf) as h,
    fun cf as h => cgo 1 4 (tX1_unit cf) as h,
    fun cf as h => cgo 1 2 (tX1_find cf) as h,
    fun cf as h => cgo 1 6 (tX1_code cf) as h,
    fun cf as h => cgo 1 2 (tX1_number cf) as h,
    fun cf as h => cgo 1 2 (tX1_domain cf) as h,
    fun cf as h => cgo 1 2 (tX1_asks cf) as h,
    fun cf as h => cgo 1 8 (tX1_askedFor cf) as h,
    fun cf as h => cgo 1 2 (tX1_used cf) as h,
    fun cf as h => mgo 4 (tX1_packed cf) as h,
    fun cf as h => cgo 1 3 (tX1_has cf) as h,
    fun cf as h => cgo 1 2 (tX1_may cf) as h,
    fun cf as h => cgo 1 2 (tX1_result cf) as h,
    fun cf as h => cgo 1 3 (tX1_event cf) as h,
    fun cf as h => cgo 1 5 (tX1_thread cf) as h,
    fun cf as h => mgo 2 (tX1_isInt cf) as h,
    fun cf as h => cgo 1 4 (tX1_context cf) as h,
    fun cf as h => cgo 1 2 (tX1_program cf) as h,
    fun cf as h => cgo 1 6 (tX1_run cf) as h,
    fun cf as h => mgo 1 (tX1_of cf) as h,
    fun cf as h => mgo 4 (tX1_isSort cf) as h],
  [fun cf as h => cgo 2 1 (tX2_init cf) as h,
    fun cf as h => cgo 2 2 (tX2_canGo cf) as h,
    fun cf as h => cgo 2 9 (tX2_run cf) as h,
    fun cf as h => cgo 2 4 (tX2_begin cf) as h,
    fun cf as h => cgo 2 1 (tX2_fresh cf) as h,
    fun cf as h => cgo 2 10 (tX2_begins cf) as h,
    fun cf as h => cgo 2 7 (tX2_first cf) as h,
    fun cf as h => cgo 2 3 (tX2_goes cf) as h,
    fun cf as h => cgo 2 3 (tX2_load cf) as h,
    fun cf as h => cgo 2 7 (tX2_one cf) as h,
    fun cf as h => cgo 2 2 (tX2_two cf) as h,
    fun cf as h => cgo 2 3 (tX2_gives cf) as h,
    fun cf as h => cgo 2 3 (tX2_makesObject cf) as h,
    fun cf as h => cgo 2 2 (tX2_fails cf) as h,
    fun cf as h => cgo 2 5 (tX2_event cf) as h,
    fun cf as h => cgo 2 9 (tX2_reads cf) as h,
    fun cf as h => cgo 2 10 (tX2_sends cf) as h,
    fun cf as h => cgo 2 7 (tX2_enter cf) as h,
    fun cf as h => cgo 2 1 (tX2_save cf) as h,
    fun cf as h => cgo 2 11 (tX2_applies cf) as h,
    fun cf as h => cgo 2 5 (tX2_makesFun cf) as h,
    fun cf as h => cgo 2 10 (tX2_parts cf) as h,
    fun cf as h => cgo 2 8 (tX2_works cf) as h,
    fun cf as h => cgo 2 4 (tX2_tests cf) as h,
    fun cf as h => cgo 2 4 (tX2_tells cf) as h,
    fun cf as h => cgo 2 10 (tX2_spawns cf) as h,
    fun cf as h => cgo 2 6 (tX2_waits cf) as h,
    fun cf as h => cgo 2 8 (tX2_asks cf) as h,
    fun cf as h => cgo 2 3 (tX2_returns cf) as h,
    fun cf as h => cgo 2 6 (tX2_choose cf) as h,
    fun cf as h => cgo 2 2 (tX2_endOf cf) as h],
  [fun cf as h => cgo 3 1 (tX3_init cf) as h,
    fun cf as h => cgo 3 2 (tX3_size cf) as h,
    fun cf as h => cgo 3 3 (tX3_product cf) as h,
    fun cf as h => cgo 3 2 (tX3_begin cf) as h,
    fun cf as h => cgo 3 4 (tX3_kept cf) as h,
    fun cf as h => cgo 3 3 (tX3_isRow cf) as h,
    fun cf as h => cgo 3 4 (tX3_limited cf) as h,
    fun cf as h => cgo 3 4 (tX3_put cf) as h,
    fun cf as h => cgo 3 4 (tX3_with cf) as h,
    fun cf as h => cgo 3 2 (tX3_own cf) as h,
    fun cf as h => cgo 3 3 (tX3_meet cf) as h,
    fun cf as h => cgo 3 4 (tX3_grants cf) as h],
  [fun cf as h => cgo 4 1 (tX4_init cf) as h,
    fun cf as h => cgo 4 1 (tX4_begin cf) as h,
    fun cf as h => cgo 4 6 (tX4_add cf) as h,
    fun cf as h => cgo 4 5 (tX4_grants cf) as h],
  [fun cf as h => cgo 5 1 (tX5_init cf) as h,
    fun cf as h => cgo 5 1 (tX5_begin cf) as h,
    fun cf as h => cgo 5 5 (tX5_add cf) as h,
    fun cf as h => cgo 5 3 (tX5_module cf) as h,
    fun cf as h => cgo 5 6 (tX5_set cf) as h,
    fun cf as h => cgo 5 4 (tX5_get cf) as h,
    fun cf as h => cgo 5 3 (tX5_unit cf) as h],
  [fun cf as h => cgo 6 1 (tX6_init cf) as h,
    fun cf as h => cgo 6 5 (tX6_set cf) as h,
    fun cf as h => cgo 6 5 (tX6_add cf) as h],
  [],
  [fun cf as h => cgo 8 3 (tX8_init cf) as h,
    fun cf as h => cgo 8 1 (tX8_read cf) as h,
    fun cf as h => cgo 8 2 (tX8_grant cf) as h,
    fun cf as h => cgo 8 3 (tX8_must cf) as h,
    fun cf as h => cgo 8 2 (tX8_pattern cf) as h,
    fun cf as h => cgo 8 4 (tX8_right cf) as h,
    fun cf as h => cgo 8 1 (tX8_name cf) as h,
    fun cf as h => cgo 8 3 (tX8_module cf) as h,
    fun cf as h => cgo 8 1 (tX8_place cf) as h,
    fun cf as h => cgo 8 3 (tX8_field cf) as h,
    fun cf as h => cgo 8 5 (tX8_method cf) as h,
    fun cf as h => cgo 8 4 (tX8_open cf) as h,
    fun cf as h => cgo 8 7 (tX8_parameters cf) as h,
    fun cf as h => cgo 8 2 (tX8_e cf) as h,
    fun cf as h => cgo 8 1 (tX8_begins cf) as h,
    fun cf as h => cgo 8 1 (tX8_beginsPrefix cf) as h,
    fun cf as h => cgo 8 2 (tX8_deeper cf) as h,
    fun cf as h => cgo 8 4 (tX8_let cf) as h,
    fun cf as h => cgo 8 1 (tX8_part cf) as h,
    fun cf as h => cgo 8 4 (tX8_fresh cf) as h,
    fun cf as h => cgo 8 2 (tX8_hide cf) as h,
    fun cf as h => cgo 8 3 (tX8_choice cf) as h,
    fun cf as h => cgo 8 4 (tX8_tried cf) as h,
    fun cf as h => cgo 8 3 (tX8_compared cf) as h,
    fun cf as h => cgo 8 3 (tX8_sum cf) as h,
    fun cf as h => cgo 8 2 (tX8_product cf) as h,
    fun cf as h => cgo 8 4 (tX8_prefix cf) as h,
    fun cf as h => cgo 8 5 (tX8_privileged cf) as h,
    fun cf as h => cgo 8 3 (tX8_within cf) as h,
    fun cf as h => cgo 8 2 (tX8_behind cf) as h,
    fun cf as h => cgo 8 4 (tX8_under cf) as h,
    fun cf as h => cgo 8 6 (tX8_postfix cf) as h,
    fun cf as h => cgo 8 2 (tX8_atom cf) as h,
    fun cf as h => cgo 8 2 (tX8_variable cf) as h,
    fun cf as h => cgo 8 2 (tX8_row cf) as h,
    fun cf as h => cgo 8 2 (tX8_fresher cf) as h,
    fun cf as h => cgo 8 4 (tX8_fun cf) as h,
    fun cf as h => cgo 8 6 (tX8_asking cf) as h,
    fun cf as h => cgo 8 3 (tX8_given cf) as h],
  [fun cf as h => cgo 9 4 (tX9_who cf) as h,
    fun cf as h => cgo 9 1 (tX9_init cf) as h,
    fun cf as h => cgo 9 4 (tX9_module cf) as h,
    fun cf as h => cgo 9 3 (tX9_numberOf cf) as h,
    fun cf as h => cgo 9 4 (tX9_nameOf cf) as h,
    fun cf as h => cgo 9 3 (tX9_finish cf) as h,
    fun cf as h => cgo 9 4 (tX9_settle cf) as h,
    fun cf as h => cgo 9 4 (tX9_need cf) as h,
    fun cf as h => cgo 9 4 (tX9_mustNeed cf) as h,
    fun cf as h => cgo 9 2 (tX9_needsFun cf) as h,
    fun cf as h => cgo 9 7 (tX9_needsOf cf) as h,
    fun cf as h => cgo 9 4 (tX9_needsMethod cf) as h],
  [fun cf as h => cgo 10 5 (tX10_init cf) as h,
    fun cf as h => cgo 10 2 (tX10_next cf) as h,
    fun cf as h => cgo 10 2 (tX10_blanks cf) as h,
    fun cf as h => cgo 10 2 (tX10_see cf) as h,
    fun cf as h => mgo 1 (tX10_isLetter cf) as h,
    fun cf as h => cgo 10 2 (tX10_word cf) as h,
    fun cf as h => mgo 1 (tX10_isDigit cf) as h,
    fun cf as h => cgo 10 2 (tX10_wrong cf) as h,
    fun cf as h => cgo 10 3 (tX10_number cf) as h,
    fun cf as h => cgo 10 6 (tX10_path cf) as h,
    fun cf as h => cgo 10 4 (tX10_sign cf) as h,
    fun cf as h => cgo 10 2 (tX10_isKey cf) as h,
    fun cf as h => cgo 10 2 (tX10_sign_2 cf) as h,
    fun cf as h => cgo 10 2 (tX10_isSign cf) as h,
    fun cf as h => cgo 10 2 (tX10_need cf) as h,
    fun cf as h => cgo 10 2 (tX10_passes cf) as h,
    fun cf as h => cgo 10 2 (tX10_key cf) as h],
  [fun cf as h => cgo 11 3 (tX11_init cf) as h],
  [fun cf as h => cgo 12 5 (tX12_init cf) as h,
    fun cf as h => cgo 12 1 (tX12_isPlace cf) as h,
    fun cf as h => cgo 12 5 (tX12_covers cf) as h],
  [fun cf as h => cgo 13 2 (tX13_init cf) as h],
  [fun cf as h => cgo 14 2 (tX14_has cf) as h,
    fun cf as h => cgo 14 4 (tX14_init cf) as h],
  [fun cf as h => cgo 15 5 (tX15_init cf) as h,
    fun cf as h => cgo 15 1 (tX15_fields cf) as h,
    fun cf as h => cgo 15 4 (tX15_field cf) as h,
    fun cf as h => cgo 15 5 (tX15_own cf) as h,
    fun cf as h => cgo 15 5 (tX15_method cf) as h],
  [fun cf as h => cgo 16 1 (tX16_locals cf) as h,
    fun cf as h => cgo 16 6 (tX16_init cf) as h,
    fun cf as h => cgo 16 3 (tX16_add cf) as h,
    fun cf as h => cgo 16 4 (tX16_reach cf) as h,
    fun cf as h => cgo 16 1 (tX16_takes cf) as h],
  [fun cf as h => cgo 17 6 (tX17_init cf) as h,
    fun cf as h => cgo 17 1 (tX17_local cf) as h],
  [fun cf as h => mgo 1 (tX18_init cf) as h],
  [fun cf as h => cgo 19 4 (tX19_init cf) as h,
    fun cf as h => cgo 19 2 (tX19_lay cf) as h],
  [fun cf as h => cgo 20 4 (tX20_init cf) as h,
    fun cf as h => cgo 20 4 (tX20_lay cf) as h],
  [fun cf as h => cgo 21 4 (tX21_init cf) as h,
    fun cf as h => cgo 21 4 (tX21_lay cf) as h],
  [fun cf as h => mgo 3 (tX22_hasOne cf) as h,
    fun cf as h => mgo 1 (tX22_init cf) as h],
  [fun cf as h => cgo 23 2 (tX23_has cf) as h,
    fun cf as h => cgo 23 1 (tX23_init cf) as h],
  [fun cf as h => cgo 24 3 (tX24_init cf) as h,
    fun cf as h => cgo 24 4 (tX24_lay cf) as h],
  [fun cf as h => cgo 25 3 (tX25_init cf) as h,
    fun cf as h => cgo 25 2 (tX25_lay cf) as h],
  [fun cf as h => cgo 26 2 (tX26_init cf) as h,
    fun cf as h => cgo 26 2 (tX26_lay cf) as h],
  [fun cf as h => cgo 27 2 (tX27_init cf) as h,
    fun cf as h => cgo 27 3 (tX27_lay cf) as h],
  [fun cf as h => cgo 28 1 (tX28_init cf) as h,
    fun cf as h => cgo 28 2 (tX28_lay cf) as h],
  [fun cf as h => cgo 29 4 (tX29_init cf) as h,
    fun cf as h => cgo 29 3 (tX29_lay cf) as h],
  [fun cf as h => cgo 30 6 (tX30_init cf) as h,
    fun cf as h => cgo 30 3 (tX30_lay cf) as h],
  [fun cf as h => cgo 31 4 (tX31_init cf) as h,
    fun cf as h => cgo 31 2 (tX31_lay cf) as h],
  [fun cf as h => cgo 32 3 (tX32_init cf) as h,
    fun cf as h => cgo 32 3 (tX32_lay cf) as h],
  [fun cf as h => cgo 33 4 (tX33_init cf) as h,
    fun cf as h => cgo 33 2 (tX33_lay cf) as h],
  [fun cf as h => cgo 34 3 (tX34_has cf) as h,
    fun cf as h => cgo 34 3 (tX34_init cf) as h],
  [fun cf as h => cgo 35 4 (tX35_init cf) as h,
    fun cf as h => cgo 35 1 (tX35_all cf) as h,
    fun cf as h => cgo 35 2 (tX35_begins cf) as h,
    fun cf as h => cgo 35 3 (tX35_lay cf) as h,
    fun cf as h => cgo 35 2 (tX35_put cf) as h,
    fun cf as h => cgo 35 2 (tX35_two cf) as h,
    fun cf as h => cgo 35 4 (tX35_lay_2 cf) as h,
    fun cf as h => cgo 35 2 (tX35_hands cf) as h,
    fun cf as h => cgo 35 2 (tX35_lay_3 cf) as h,
    fun cf as h => cgo 35 2 (tX35_jump cf) as h,
    fun cf as h => cgo 35 2 (tX35_get cf) as h,
    fun cf as h => cgo 35 2 (tX35_here cf) as h,
    fun cf as h => cgo 35 3 (tX35_captures cf) as h],
  [fun cf as h => cgo 36 3 (tX36_init cf) as h,
    fun cf as h => cgo 36 3 (tX36_all cf) as h,
    fun cf as h => cgo 36 3 (tX36_call cf) as h,
    fun cf as h => cgo 36 4 (tX36_add cf) as h,
    fun cf as h => cgo 36 4 (tX36_from cf) as h,
    fun cf as h => cgo 36 8 (tX36_group cf) as h,
    fun cf as h => cgo 36 5 (tX36_inside cf) as h],
  [fun cf as h => cgo 37 1 (tX37_init cf) as h,
    fun cf as h => cgo 37 1 (tX37_begin cf) as h,
    fun cf as h => cgo 37 3 (tX37_push cf) as h,
    fun cf as h => cgo 37 1 (tX37_pop cf) as h,
    fun cf as h => cgo 37 2 (tX37_tries cf) as h]]
/-- a part lays its code: by its class -/
noncomputable def clay (cf : mCF cS) (as : List mE) (h : cS) : cRes := match as with
  | .inr (.inr (.ref a)) :: _ => cond (cpart (cCl h a)) (nthD (fun _ _ _ => none) (nthD [] cTab (cCl h a)) 1 cf as h) none
  | _ => none
noncomputable def cC : Nat → mCF cS
  | 0 => fun _ _ _ => none
  | d + 1 => fun m as h => cond (Nat.ble 9000 m) (cond (Nat.ble 8 d) (cPrim m as h) none) (cond (Nat.beq m 8000) (clay (cC d) as h) (nthD (fun _ _ _ => none) (nthD [] cTab (m / 100)) (m % 100) (cC d) as h))
theorem kX1_init (d : Nat) (x0 : Value) (h : cS) : cC (d + 1) 100 [eR x0] h = cck h x0 1 (fX1_init (cC d) x0 h) := rfl
theorem kX1_feed (d : Nat) (x0 : Value) (x1 : Int32) (x2 : Int32) (x3 : Int32) (x4 : Int32) (x5 : Int32) (h : cS) : cC (d + 1) 101 [eR x0, eI x1, eI x2, eI x3, eI x4, eI x5] h = cck h x0 1 (fX1_feed (cC d) x0 x1 x2 x3 x4 x5 h) := rfl
theorem kX1_end (d : Nat) (x0 : Value) (x1 : Int32) (h : cS) : cC (d + 1) 102 [eR x0, eI x1] h = cck h x0 1 (fX1_end (cC d) x0 x1 h) := rfl
theorem kX1_fault (d : Nat) (x0 : Value) (x1 : Int32) (h : cS) : cC (d + 1) 103 [eR x0, eI x1] h = cck h x0 1 (fX1_fault (cC d) x0 x1 h) := rfl
theorem kX1_count (d : Nat) (x0 : Value) (x1 : Int32) (h : cS) : cC (d + 1) 104 [eR x0, eI x1] h = cck h x0 1 (fX1_count (cC d) x0 x1 h) := rfl
theorem kX1_needing (d : Nat) (x0 : Value) (h : cS) : cC (d + 1) 105 [eR x0] h = cck h x0 1 (fX1_needing (cC d) x0 h) := rfl
theorem kX1_unit (d : Nat) (x0 : Value) (x1 : Int32) (x2 : Int32) (h : cS) : cC (d + 1) 106 [eR x0, eI x1, eI x2] h = cck h x0 1 (fX1_unit (cC d) x0 x1 x2 h) := rfl
theorem kX1_find (d : Nat) (x0 : Value) (x1 : Int32) (h : cS) : cC (d + 1) 107 [eR x0, eI x1] h = cck h x0 1 (fX1_find (cC d) x0 x1 h) := rfl
theorem kX1_code (d : Nat) (x0 : Value) (x1 : Int32) (x2 : Int32) (x3 : Int32) (h : cS) : cC (d + 1) 108 [eR x0, eI x1, eI x2, eI x3] h = cck h x0 1 (fX1_code (cC d) x0 x1 x2 x3 h) := rfl
theorem kX1_number (d : Nat) (x0 : Value) (x1 : Int32) (h : cS) : cC (d + 1) 109 [eR x0, eI x1] h = cck h x0 1 (fX1_number (cC d) x0 x1 h) := rfl
theorem kX1_domain (d : Nat) (x0 : Value) (x1 : Int32) (h : cS) : cC (d + 1) 110 [eR x0, eI x1] h = cck h x0 1 (fX1_domain (cC d) x0 x1 h) := rfl
theorem kX1_asks (d : Nat) (x0 : Value) (h : cS) : cC (d + 1) 111 [eR x0] h = cck h x0 1 (fX1_asks (cC d) x0 h) := rfl
theorem kX1_askedFor (d : Nat) (x0 : Value) (h : cS) : cC (d + 1) 112 [eR x0] h = cck h x0 1 (fX1_askedFor (cC d) x0 h) := rfl
theorem kX1_used (d : Nat) (x0 : Value) (h : cS) : cC (d + 1) 113 [eR x0] h = cck h x0 1 (fX1_used (cC d) x0 h) := rfl
theorem kX1_packed (d : Nat) (x0 : Value) (h : cS) : cC (d + 1) 114 [eR x0] h = fX1_packed (cC d) x0 h := rfl
theorem kX1_has (d : Nat) (x0 : Value) (x1 : Int32) (x2 : Int32) (h : cS) : cC (d + 1) 115 [eR x0, eI x1, eI x2] h = cck h x0 1 (fX1_has (cC d) x0 x1 x2 h) := rfl
theorem kX1_may (d : Nat) (x0 : Value) (x1 : Int32) (h : cS) : cC (d + 1) 116 [eR x0, eI x1] h = cck h x0 1 (fX1_may (cC d) x0 x1 h) := rfl
theorem kX1_result (d : Nat) (x0 : Value) (x1 : Int32) (h : cS) : cC (d + 1) 117 [eR x0, eI x1] h = cck h x0 1 (fX1_result (cC d) x0 x1 h) := rfl
theorem kX1_event (d : Nat) (x0 : Value) (x1 : Int32) (x2 : Int32) (h : cS) : cC (d + 1) 118 [eR x0, eI x1, eI x2] h = cck h x0 1 (fX1_event (cC d) x0 x1 x2 h) := rfl
theorem kX1_thread (d : Nat) (x0 : Value) (x1 : Int32) (x2 : Int32) (h : cS) : cC (d + 1) 119 [eR x0, eI x1, eI x2] h = cck h x0 1 (fX1_thread (cC d) x0 x1 x2 h) := rfl
theorem kX1_isInt (d : Nat) (x0 : Int64) (h : cS) : cC (d + 1) 120 [eL x0] h = fX1_isInt (cC d) x0 h := rfl
theorem kX1_context (d : Nat) (x0 : Value) (x1 : Int32) (x2 : Int32) (h : cS) : cC (d + 1) 121 [eR x0, eI x1, eI x2] h = cck h x0 1 (fX1_context (cC d) x0 x1 x2 h) := rfl
theorem kX1_program (d : Nat) (x0 : Value) (h : cS) : cC (d + 1) 122 [eR x0] h = cck h x0 1 (fX1_program (cC d) x0 h) := rfl
theorem kX1_run (d : Nat) (x0 : Value) (x1 : Int32) (x2 : Int32) (x3 : Int32) (x4 : Int32) (h : cS) : cC (d + 1) 123 [eR x0, eI x1, eI x2, eI x3, eI x4] h = cck h x0 1 (fX1_run (cC d) x0 x1 x2 x3 x4 h) := rfl
theorem kX1_of (d : Nat) (x0 : Int32) (h : cS) : cC (d + 1) 124 [eI x0] h = fX1_of (cC d) x0 h := rfl
theorem kX1_isSort (d : Nat) (x0 : Int64) (x2 : Int64) (h : cS) : cC (d + 1) 125 [eL x0, eL x2] h = fX1_isSort (cC d) x0 x2 h := rfl
theorem kX2_init (d : Nat) (x0 : Value) (h : cS) : cC (d + 1) 200 [eR x0] h = cck h x0 2 (fX2_init (cC d) x0 h) := rfl
theorem kX2_canGo (d : Nat) (x0 : Value) (x1 : Value) (h : cS) : cC (d + 1) 201 [eR x0, eR x1] h = cck h x0 2 (fX2_canGo (cC d) x0 x1 h) := rfl
theorem kX2_run (d : Nat) (x0 : Value) (x1 : Value) (x2 : Value) (x3 : Int32) (x4 : Int32) (x5 : Int32) (h : cS) : cC (d + 1) 202 [eR x0, eR x1, eR x2, eI x3, eI x4, eI x5] h = cck h x0 2 (fX2_run (cC d) x0 x1 x2 x3 x4 x5 h) := rfl
theorem kX2_begin (d : Nat) (x0 : Value) (x1 : Value) (x2 : Int32) (x3 : Int32) (h : cS) : cC (d + 1) 203 [eR x0, eR x1, eI x2, eI x3] h = cck h x0 2 (fX2_begin (cC d) x0 x1 x2 x3 h) := rfl
theorem kX2_fresh (d : Nat) (x0 : Value) (h : cS) : cC (d + 1) 204 [eR x0] h = cck h x0 2 (fX2_fresh (cC d) x0 h) := rfl
theorem kX2_begins (d : Nat) (x0 : Value) (x1 : Value) (x2 : Value) (x3 : Int32) (x4 : Int32) (x5 : Int32) (x6 : Int64) (h : cS) : cC (d + 1) 205 [eR x0, eR x1, eR x2, eI x3, eI x4, eI x5, eL x6] h = cck h x0 2 (fX2_begins (cC d) x0 x1 x2 x3 x4 x5 x6 h) := rfl
theorem kX2_first (d : Nat) (x0 : Value) (x1 : Value) (x2 : Value) (x3 : Int32) (h : cS) : cC (d + 1) 206 [eR x0, eR x1, eR x2, eI x3] h = cck h x0 2 (fX2_first (cC d) x0 x1 x2 x3 h) := rfl
theorem kX2_goes (d : Nat) (x0 : Value) (x1 : Int32) (h : cS) : cC (d + 1) 207 [eR x0, eI x1] h = cck h x0 2 (fX2_goes (cC d) x0 x1 h) := rfl
theorem kX2_load (d : Nat) (x0 : Value) (h : cS) : cC (d + 1) 208 [eR x0] h = cck h x0 2 (fX2_load (cC d) x0 h) := rfl
theorem kX2_one (d : Nat) (x0 : Value) (h : cS) : cC (d + 1) 209 [eR x0] h = cck h x0 2 (fX2_one (cC d) x0 h) := rfl
theorem kX2_two (d : Nat) (x0 : Value) (h : cS) : cC (d + 1) 210 [eR x0] h = cck h x0 2 (fX2_two (cC d) x0 h) := rfl
theorem kX2_gives (d : Nat) (x0 : Value) (x1 : Int64) (h : cS) : cC (d + 1) 211 [eR x0, eL x1] h = cck h x0 2 (fX2_gives (cC d) x0 x1 h) := rfl
theorem kX2_makesObject (d : Nat) (x0 : Value) (x1 : Value) (h : cS) : cC (d + 1) 212 [eR x0, eR x1] h = cck h x0 2 (fX2_makesObject (cC d) x0 x1 h) := rfl
theorem kX2_fails (d : Nat) (x0 : Value) (x1 : Int32) (h : cS) : cC (d + 1) 213 [eR x0, eI x1] h = cck h x0 2 (fX2_fails (cC d) x0 x1 h) := rfl
theorem kX2_event (d : Nat) (x0 : Value) (x1 : Int32) (x2 : Int32) (x3 : Int32) (x4 : Int32) (h : cS) : cC (d + 1) 214 [eR x0, eI x1, eI x2, eI x3, eI x4] h = cck h x0 2 (fX2_event (cC d) x0 x1 x2 x3 x4 h) := rfl
theorem kX2_reads (d : Nat) (x0 : Value) (x1 : Int64) (x3 : Int32) (h : cS) : cC (d + 1) 215 [eR x0, eL x1, eI x3] h = cck h x0 2 (fX2_reads (cC d) x0 x1 x3 h) := rfl
theorem kX2_sends (d : Nat) (x0 : Value) (x1 : Int64) (x3 : Int32) (x4 : Int32) (h : cS) : cC (d + 1) 216 [eR x0, eL x1, eI x3, eI x4] h = cck h x0 2 (fX2_sends (cC d) x0 x1 x3 x4 h) := rfl
theorem kX2_enter (d : Nat) (x0 : Value) (x1 : Value) (x2 : Int32) (x3 : Int32) (x4 : Int64) (h : cS) : cC (d + 1) 217 [eR x0, eR x1, eI x2, eI x3, eL x4] h = cck h x0 2 (fX2_enter (cC d) x0 x1 x2 x3 x4 h) := rfl
theorem kX2_save (d : Nat) (x0 : Value) (h : cS) : cC (d + 1) 218 [eR x0] h = cck h x0 2 (fX2_save (cC d) x0 h) := rfl
theorem kX2_applies (d : Nat) (x0 : Value) (x1 : Int32) (x2 : Int32) (h : cS) : cC (d + 1) 219 [eR x0, eI x1, eI x2] h = cck h x0 2 (fX2_applies (cC d) x0 x1 x2 h) := rfl
theorem kX2_makesFun (d : Nat) (x0 : Value) (x1 : Value) (h : cS) : cC (d + 1) 220 [eR x0, eR x1] h = cck h x0 2 (fX2_makesFun (cC d) x0 x1 h) := rfl
theorem kX2_parts (d : Nat) (x0 : Value) (x1 : Value) (x2 : Int32) (h : cS) : cC (d + 1) 221 [eR x0, eR x1, eI x2] h = cck h x0 2 (fX2_parts (cC d) x0 x1 x2 h) := rfl
theorem kX2_works (d : Nat) (x0 : Value) (x1 : Int32) (h : cS) : cC (d + 1) 222 [eR x0, eI x1] h = cck h x0 2 (fX2_works (cC d) x0 x1 h) := rfl
theorem kX2_tests (d : Nat) (x0 : Value) (x1 : Int32) (h : cS) : cC (d + 1) 223 [eR x0, eI x1] h = cck h x0 2 (fX2_tests (cC d) x0 x1 h) := rfl
theorem kX2_tells (d : Nat) (x0 : Value) (x1 : Int32) (h : cS) : cC (d + 1) 224 [eR x0, eI x1] h = cck h x0 2 (fX2_tells (cC d) x0 x1 h) := rfl
theorem kX2_spawns (d : Nat) (x0 : Value) (x1 : Int32) (h : cS) : cC (d + 1) 225 [eR x0, eI x1] h = cck h x0 2 (fX2_spawns (cC d) x0 x1 h) := rfl
theorem kX2_waits (d : Nat) (x0 : Value) (x1 : Int32) (h : cS) : cC (d + 1) 226 [eR x0, eI x1] h = cck h x0 2 (fX2_waits (cC d) x0 x1 h) := rfl
theorem kX2_asks (d : Nat) (x0 : Value) (x1 : Value) (x2 : Int32) (h : cS) : cC (d + 1) 227 [eR x0, eR x1, eI x2] h = cck h x0 2 (fX2_asks (cC d) x0 x1 x2 h) := rfl
theorem kX2_returns (d : Nat) (x0 : Value) (h : cS) : cC (d + 1) 228 [eR x0] h = cck h x0 2 (fX2_returns (cC d) x0 h) := rfl
theorem kX2_choose (d : Nat) (x0 : Value) (x1 : Int32) (x2 : Int32) (h : cS) : cC (d + 1) 229 [eR x0, eI x1, eI x2] h = cck h x0 2 (fX2_choose (cC d) x0 x1 x2 h) := rfl
theorem kX2_endOf (d : Nat) (x0 : Value) (h : cS) : cC (d + 1) 230 [eR x0] h = cck h x0 2 (fX2_endOf (cC d) x0 h) := rfl
theorem kX3_init (d : Nat) (x0 : Value) (h : cS) : cC (d + 1) 300 [eR x0] h = cck h x0 3 (fX3_init (cC d) x0 h) := rfl
theorem kX3_size (d : Nat) (x0 : Value) (x1 : Int32) (h : cS) : cC (d + 1) 301 [eR x0, eI x1] h = cck h x0 3 (fX3_size (cC d) x0 x1 h) := rfl
theorem kX3_product (d : Nat) (x0 : Value) (x1 : Int32) (x2 : Int32) (h : cS) : cC (d + 1) 302 [eR x0, eI x1, eI x2] h = cck h x0 3 (fX3_product (cC d) x0 x1 x2 h) := rfl
theorem kX3_begin (d : Nat) (x0 : Value) (h : cS) : cC (d + 1) 303 [eR x0] h = cck h x0 3 (fX3_begin (cC d) x0 h) := rfl
theorem kX3_kept (d : Nat) (x0 : Value) (h : cS) : cC (d + 1) 304 [eR x0] h = cck h x0 3 (fX3_kept (cC d) x0 h) := rfl
theorem kX3_isRow (d : Nat) (x0 : Value) (x1 : Int32) (h : cS) : cC (d + 1) 305 [eR x0, eI x1] h = cck h x0 3 (fX3_isRow (cC d) x0 x1 h) := rfl
theorem kX3_limited (d : Nat) (x0 : Value) (x1 : Int32) (x2 : Int32) (x3 : Int32) (h : cS) : cC (d + 1) 306 [eR x0, eI x1, eI x2, eI x3] h = cck h x0 3 (fX3_limited (cC d) x0 x1 x2 x3 h) := rfl
theorem kX3_put (d : Nat) (x0 : Value) (x1 : Int32) (h : cS) : cC (d + 1) 307 [eR x0, eI x1] h = cck h x0 3 (fX3_put (cC d) x0 x1 h) := rfl
theorem kX3_with (d : Nat) (x0 : Value) (x1 : Int32) (x2 : Int32) (h : cS) : cC (d + 1) 308 [eR x0, eI x1, eI x2] h = cck h x0 3 (fX3_with (cC d) x0 x1 x2 h) := rfl
theorem kX3_own (d : Nat) (x0 : Value) (x1 : Int32) (h : cS) : cC (d + 1) 309 [eR x0, eI x1] h = cck h x0 3 (fX3_own (cC d) x0 x1 h) := rfl
theorem kX3_meet (d : Nat) (x0 : Value) (x1 : Int32) (x2 : Int32) (h : cS) : cC (d + 1) 310 [eR x0, eI x1, eI x2] h = cck h x0 3 (fX3_meet (cC d) x0 x1 x2 h) := rfl
theorem kX3_grants (d : Nat) (x0 : Value) (x1 : Int32) (x2 : Int32) (h : cS) : cC (d + 1) 311 [eR x0, eI x1, eI x2] h = cck h x0 3 (fX3_grants (cC d) x0 x1 x2 h) := rfl
theorem kX4_init (d : Nat) (x0 : Value) (h : cS) : cC (d + 1) 400 [eR x0] h = cck h x0 4 (fX4_init (cC d) x0 h) := rfl
theorem kX4_begin (d : Nat) (x0 : Value) (h : cS) : cC (d + 1) 401 [eR x0] h = cck h x0 4 (fX4_begin (cC d) x0 h) := rfl
theorem kX4_add (d : Nat) (x0 : Value) (x1 : Value) (x2 : Int32) (x3 : Int32) (h : cS) : cC (d + 1) 402 [eR x0, eR x1, eI x2, eI x3] h = cck h x0 4 (fX4_add (cC d) x0 x1 x2 x3 h) := rfl
theorem kX4_grants (d : Nat) (x0 : Value) (x1 : Int32) (x2 : Int32) (h : cS) : cC (d + 1) 403 [eR x0, eI x1, eI x2] h = cck h x0 4 (fX4_grants (cC d) x0 x1 x2 h) := rfl
theorem kX5_init (d : Nat) (x0 : Value) (h : cS) : cC (d + 1) 500 [eR x0] h = cck h x0 5 (fX5_init (cC d) x0 h) := rfl
theorem kX5_begin (d : Nat) (x0 : Value) (h : cS) : cC (d + 1) 501 [eR x0] h = cck h x0 5 (fX5_begin (cC d) x0 h) := rfl
theorem kX5_add (d : Nat) (x0 : Value) (x1 : Value) (x2 : Value) (x3 : Int32) (h : cS) : cC (d + 1) 502 [eR x0, eR x1, eR x2, eI x3] h = cck h x0 5 (fX5_add (cC d) x0 x1 x2 x3 h) := rfl
theorem kX5_module (d : Nat) (x0 : Value) (x1 : Int64) (h : cS) : cC (d + 1) 503 [eR x0, eL x1] h = cck h x0 5 (fX5_module (cC d) x0 x1 h) := rfl
theorem kX5_set (d : Nat) (x0 : Value) (x1 : Int64) (x3 : Int32) (x4 : Int64) (h : cS) : cC (d + 1) 504 [eR x0, eL x1, eI x3, eL x4] h = cck h x0 5 (fX5_set (cC d) x0 x1 x3 x4 h) := rfl
theorem kX5_get (d : Nat) (x0 : Value) (x1 : Int64) (x3 : Int32) (h : cS) : cC (d + 1) 505 [eR x0, eL x1, eI x3] h = cck h x0 5 (fX5_get (cC d) x0 x1 x3 h) := rfl
theorem kX5_unit (d : Nat) (x0 : Value) (x1 : Int64) (h : cS) : cC (d + 1) 506 [eR x0, eL x1] h = cck h x0 5 (fX5_unit (cC d) x0 x1 h) := rfl
theorem kX6_init (d : Nat) (x0 : Value) (h : cS) : cC (d + 1) 600 [eR x0] h = cck h x0 6 (fX6_init (cC d) x0 h) := rfl
theorem kX6_set (d : Nat) (x0 : Value) (x1 : Int64) (x3 : Value) (h : cS) : cC (d + 1) 601 [eR x0, eL x1, eR x3] h = cck h x0 6 (fX6_set (cC d) x0 x1 x3 h) := rfl
theorem kX6_add (d : Nat) (x0 : Value) (x1 : Int32) (h : cS) : cC (d + 1) 602 [eR x0, eI x1] h = cck h x0 6 (fX6_add (cC d) x0 x1 h) := rfl
theorem kX8_init (d : Nat) (x0 : Value) (x1 : Value) (x2 : Int32) (h : cS) : cC (d + 1) 800 [eR x0, eR x1, eI x2] h = cck h x0 8 (fX8_init (cC d) x0 x1 x2 h) := rfl
theorem kX8_read (d : Nat) (x0 : Value) (h : cS) : cC (d + 1) 801 [eR x0] h = cck h x0 8 (fX8_read (cC d) x0 h) := rfl
theorem kX8_grant (d : Nat) (x0 : Value) (h : cS) : cC (d + 1) 802 [eR x0] h = cck h x0 8 (fX8_grant (cC d) x0 h) := rfl
theorem kX8_must (d : Nat) (x0 : Value) (x1 : Int32) (x2 : Int32) (h : cS) : cC (d + 1) 803 [eR x0, eI x1, eI x2] h = cck h x0 8 (fX8_must (cC d) x0 x1 x2 h) := rfl
theorem kX8_pattern (d : Nat) (x0 : Value) (h : cS) : cC (d + 1) 804 [eR x0] h = cck h x0 8 (fX8_pattern (cC d) x0 h) := rfl
theorem kX8_right (d : Nat) (x0 : Value) (x1 : Value) (h : cS) : cC (d + 1) 805 [eR x0, eR x1] h = cck h x0 8 (fX8_right (cC d) x0 x1 h) := rfl
theorem kX8_name (d : Nat) (x0 : Value) (h : cS) : cC (d + 1) 806 [eR x0] h = cck h x0 8 (fX8_name (cC d) x0 h) := rfl
theorem kX8_module (d : Nat) (x0 : Value) (h : cS) : cC (d + 1) 807 [eR x0] h = cck h x0 8 (fX8_module (cC d) x0 h) := rfl
theorem kX8_place (d : Nat) (x0 : Value) (h : cS) : cC (d + 1) 808 [eR x0] h = cck h x0 8 (fX8_place (cC d) x0 h) := rfl
theorem kX8_field (d : Nat) (x0 : Value) (h : cS) : cC (d + 1) 809 [eR x0] h = cck h x0 8 (fX8_field (cC d) x0 h) := rfl
theorem kX8_method (d : Nat) (x0 : Value) (h : cS) : cC (d + 1) 810 [eR x0] h = cck h x0 8 (fX8_method (cC d) x0 h) := rfl
theorem kX8_open (d : Nat) (x0 : Value) (x1 : Int32) (x2 : Int32) (h : cS) : cC (d + 1) 811 [eR x0, eI x1, eI x2] h = cck h x0 8 (fX8_open (cC d) x0 x1 x2 h) := rfl
theorem kX8_parameters (d : Nat) (x0 : Value) (x1 : Value) (h : cS) : cC (d + 1) 812 [eR x0, eR x1] h = cck h x0 8 (fX8_parameters (cC d) x0 x1 h) := rfl
theorem kX8_e (d : Nat) (x0 : Value) (h : cS) : cC (d + 1) 813 [eR x0] h = cck h x0 8 (fX8_e (cC d) x0 h) := rfl
theorem kX8_begins (d : Nat) (x0 : Value) (h : cS) : cC (d + 1) 814 [eR x0] h = cck h x0 8 (fX8_begins (cC d) x0 h) := rfl
theorem kX8_beginsPrefix (d : Nat) (x0 : Value) (h : cS) : cC (d + 1) 815 [eR x0] h = cck h x0 8 (fX8_beginsPrefix (cC d) x0 h) := rfl
theorem kX8_deeper (d : Nat) (x0 : Value) (x1 : Int32) (h : cS) : cC (d + 1) 816 [eR x0, eI x1] h = cck h x0 8 (fX8_deeper (cC d) x0 x1 h) := rfl
theorem kX8_let (d : Nat) (x0 : Value) (h : cS) : cC (d + 1) 817 [eR x0] h = cck h x0 8 (fX8_let (cC d) x0 h) := rfl
theorem kX8_part (d : Nat) (x0 : Value) (h : cS) : cC (d + 1) 818 [eR x0] h = cck h x0 8 (fX8_part (cC d) x0 h) := rfl
theorem kX8_fresh (d : Nat) (x0 : Value) (h : cS) : cC (d + 1) 819 [eR x0] h = cck h x0 8 (fX8_fresh (cC d) x0 h) := rfl
theorem kX8_hide (d : Nat) (x0 : Value) (x1 : Int32) (h : cS) : cC (d + 1) 820 [eR x0, eI x1] h = cck h x0 8 (fX8_hide (cC d) x0 x1 h) := rfl
theorem kX8_choice (d : Nat) (x0 : Value) (h : cS) : cC (d + 1) 821 [eR x0] h = cck h x0 8 (fX8_choice (cC d) x0 h) := rfl
theorem kX8_tried (d : Nat) (x0 : Value) (h : cS) : cC (d + 1) 822 [eR x0] h = cck h x0 8 (fX8_tried (cC d) x0 h) := rfl
theorem kX8_compared (d : Nat) (x0 : Value) (h : cS) : cC (d + 1) 823 [eR x0] h = cck h x0 8 (fX8_compared (cC d) x0 h) := rfl
theorem kX8_sum (d : Nat) (x0 : Value) (h : cS) : cC (d + 1) 824 [eR x0] h = cck h x0 8 (fX8_sum (cC d) x0 h) := rfl
theorem kX8_product (d : Nat) (x0 : Value) (h : cS) : cC (d + 1) 825 [eR x0] h = cck h x0 8 (fX8_product (cC d) x0 h) := rfl
theorem kX8_prefix (d : Nat) (x0 : Value) (h : cS) : cC (d + 1) 826 [eR x0] h = cck h x0 8 (fX8_prefix (cC d) x0 h) := rfl
theorem kX8_privileged (d : Nat) (x0 : Value) (h : cS) : cC (d + 1) 827 [eR x0] h = cck h x0 8 (fX8_privileged (cC d) x0 h) := rfl
theorem kX8_within (d : Nat) (x0 : Value) (x1 : Value) (h : cS) : cC (d + 1) 828 [eR x0, eR x1] h = cck h x0 8 (fX8_within (cC d) x0 x1 h) := rfl
theorem kX8_behind (d : Nat) (x0 : Value) (h : cS) : cC (d + 1) 829 [eR x0] h = cck h x0 8 (fX8_behind (cC d) x0 h) := rfl
theorem kX8_under (d : Nat) (x0 : Value) (h : cS) : cC (d + 1) 830 [eR x0] h = cck h x0 8 (fX8_under (cC d) x0 h) := rfl
theorem kX8_postfix (d : Nat) (x0 : Value) (h : cS) : cC (d + 1) 831 [eR x0] h = cck h x0 8 (fX8_postfix (cC d) x0 h) := rfl
theorem kX8_atom (d : Nat) (x0 : Value) (h : cS) : cC (d + 1) 832 [eR x0] h = cck h x0 8 (fX8_atom (cC d) x0 h) := rfl
theorem kX8_variable (d : Nat) (x0 : Value) (h : cS) : cC (d + 1) 833 [eR x0] h = cck h x0 8 (fX8_variable (cC d) x0 h) := rfl
theorem kX8_row (d : Nat) (x0 : Value) (h : cS) : cC (d + 1) 834 [eR x0] h = cck h x0 8 (fX8_row (cC d) x0 h) := rfl
theorem kX8_fresher (d : Nat) (x0 : Value) (h : cS) : cC (d + 1) 835 [eR x0] h = cck h x0 8 (fX8_fresher (cC d) x0 h) := rfl
theorem kX8_fun (d : Nat) (x0 : Value) (h : cS) : cC (d + 1) 836 [eR x0] h = cck h x0 8 (fX8_fun (cC d) x0 h) := rfl
theorem kX8_asking (d : Nat) (x0 : Value) (h : cS) : cC (d + 1) 837 [eR x0] h = cck h x0 8 (fX8_asking (cC d) x0 h) := rfl
theorem kX8_given (d : Nat) (x0 : Value) (h : cS) : cC (d + 1) 838 [eR x0] h = cck h x0 8 (fX8_given (cC d) x0 h) := rfl
theorem kX9_who (d : Nat) (x0 : Value) (x1 : Value) (h : cS) : cC (d + 1) 900 [eR x0, eR x1] h = cck h x0 9 (fX9_who (cC d) x0 x1 h) := rfl
theorem kX9_init (d : Nat) (x0 : Value) (h : cS) : cC (d + 1) 901 [eR x0] h = cck h x0 9 (fX9_init (cC d) x0 h) := rfl
theorem kX9_module (d : Nat) (x0 : Value) (x1 : Int64) (h : cS) : cC (d + 1) 902 [eR x0, eL x1] h = cck h x0 9 (fX9_module (cC d) x0 x1 h) := rfl
theorem kX9_numberOf (d : Nat) (x0 : Value) (x1 : Int32) (h : cS) : cC (d + 1) 903 [eR x0, eI x1] h = cck h x0 9 (fX9_numberOf (cC d) x0 x1 h) := rfl
theorem kX9_nameOf (d : Nat) (x0 : Value) (x1 : Int64) (h : cS) : cC (d + 1) 904 [eR x0, eL x1] h = cck h x0 9 (fX9_nameOf (cC d) x0 x1 h) := rfl
theorem kX9_finish (d : Nat) (x0 : Value) (h : cS) : cC (d + 1) 905 [eR x0] h = cck h x0 9 (fX9_finish (cC d) x0 h) := rfl
theorem kX9_settle (d : Nat) (x0 : Value) (x1 : Value) (h : cS) : cC (d + 1) 906 [eR x0, eR x1] h = cck h x0 9 (fX9_settle (cC d) x0 x1 h) := rfl
theorem kX9_need (d : Nat) (x0 : Value) (h : cS) : cC (d + 1) 907 [eR x0] h = cck h x0 9 (fX9_need (cC d) x0 h) := rfl
theorem kX9_mustNeed (d : Nat) (x0 : Value) (x1 : Value) (h : cS) : cC (d + 1) 908 [eR x0, eR x1] h = cck h x0 9 (fX9_mustNeed (cC d) x0 x1 h) := rfl
theorem kX9_needsFun (d : Nat) (x0 : Value) (x1 : Int32) (h : cS) : cC (d + 1) 909 [eR x0, eI x1] h = cck h x0 9 (fX9_needsFun (cC d) x0 x1 h) := rfl
theorem kX9_needsOf (d : Nat) (x0 : Value) (x1 : Int32) (x2 : Int64) (x4 : Int32) (h : cS) : cC (d + 1) 910 [eR x0, eI x1, eL x2, eI x4] h = cck h x0 9 (fX9_needsOf (cC d) x0 x1 x2 x4 h) := rfl
theorem kX9_needsMethod (d : Nat) (x0 : Value) (x1 : Int64) (x3 : Int32) (h : cS) : cC (d + 1) 911 [eR x0, eL x1, eI x3] h = cck h x0 9 (fX9_needsMethod (cC d) x0 x1 x3 h) := rfl
theorem kX10_init (d : Nat) (x0 : Value) (x1 : Value) (x2 : Int32) (x3 : Int32) (h : cS) : cC (d + 1) 1000 [eR x0, eR x1, eI x2, eI x3] h = cck h x0 10 (fX10_init (cC d) x0 x1 x2 x3 h) := rfl
theorem kX10_next (d : Nat) (x0 : Value) (h : cS) : cC (d + 1) 1001 [eR x0] h = cck h x0 10 (fX10_next (cC d) x0 h) := rfl
theorem kX10_blanks (d : Nat) (x0 : Value) (h : cS) : cC (d + 1) 1002 [eR x0] h = cck h x0 10 (fX10_blanks (cC d) x0 h) := rfl
theorem kX10_see (d : Nat) (x0 : Value) (x1 : Int32) (h : cS) : cC (d + 1) 1003 [eR x0, eI x1] h = cck h x0 10 (fX10_see (cC d) x0 x1 h) := rfl
theorem kX10_isLetter (d : Nat) (x0 : Int32) (h : cS) : cC (d + 1) 1004 [eI x0] h = fX10_isLetter (cC d) x0 h := rfl
theorem kX10_word (d : Nat) (x0 : Value) (h : cS) : cC (d + 1) 1005 [eR x0] h = cck h x0 10 (fX10_word (cC d) x0 h) := rfl
theorem kX10_isDigit (d : Nat) (x0 : Int32) (h : cS) : cC (d + 1) 1006 [eI x0] h = fX10_isDigit (cC d) x0 h := rfl
theorem kX10_wrong (d : Nat) (x0 : Value) (x1 : Int32) (h : cS) : cC (d + 1) 1007 [eR x0, eI x1] h = cck h x0 10 (fX10_wrong (cC d) x0 x1 h) := rfl
theorem kX10_number (d : Nat) (x0 : Value) (h : cS) : cC (d + 1) 1008 [eR x0] h = cck h x0 10 (fX10_number (cC d) x0 h) := rfl
theorem kX10_path (d : Nat) (x0 : Value) (h : cS) : cC (d + 1) 1009 [eR x0] h = cck h x0 10 (fX10_path (cC d) x0 h) := rfl
theorem kX10_sign (d : Nat) (x0 : Value) (x1 : Int32) (h : cS) : cC (d + 1) 1010 [eR x0, eI x1] h = cck h x0 10 (fX10_sign (cC d) x0 x1 h) := rfl
theorem kX10_isKey (d : Nat) (x0 : Value) (x1 : Int32) (h : cS) : cC (d + 1) 1011 [eR x0, eI x1] h = cck h x0 10 (fX10_isKey (cC d) x0 x1 h) := rfl
theorem kX10_sign_2 (d : Nat) (x0 : Value) (x1 : Int32) (h : cS) : cC (d + 1) 1012 [eR x0, eI x1] h = cck h x0 10 (fX10_sign_2 (cC d) x0 x1 h) := rfl
theorem kX10_isSign (d : Nat) (x0 : Value) (x1 : Int32) (h : cS) : cC (d + 1) 1013 [eR x0, eI x1] h = cck h x0 10 (fX10_isSign (cC d) x0 x1 h) := rfl
theorem kX10_need (d : Nat) (x0 : Value) (x1 : Int32) (h : cS) : cC (d + 1) 1014 [eR x0, eI x1] h = cck h x0 10 (fX10_need (cC d) x0 x1 h) := rfl
theorem kX10_passes (d : Nat) (x0 : Value) (x1 : Int32) (h : cS) : cC (d + 1) 1015 [eR x0, eI x1] h = cck h x0 10 (fX10_passes (cC d) x0 x1 h) := rfl
theorem kX10_key (d : Nat) (x0 : Value) (x1 : Int32) (h : cS) : cC (d + 1) 1016 [eR x0, eI x1] h = cck h x0 10 (fX10_key (cC d) x0 x1 h) := rfl
theorem kX11_init (d : Nat) (x0 : Value) (x1 : Int32) (x2 : Int32) (h : cS) : cC (d + 1) 1100 [eR x0, eI x1, eI x2] h = cck h x0 11 (fX11_init (cC d) x0 x1 x2 h) := rfl
theorem kX12_init (d : Nat) (x0 : Value) (x1 : Value) (x2 : Int32) (x3 : Int32) (h : cS) : cC (d + 1) 1200 [eR x0, eR x1, eI x2, eI x3] h = cck h x0 12 (fX12_init (cC d) x0 x1 x2 x3 h) := rfl
theorem kX12_isPlace (d : Nat) (x0 : Value) (h : cS) : cC (d + 1) 1201 [eR x0] h = cck h x0 12 (fX12_isPlace (cC d) x0 h) := rfl
theorem kX12_covers (d : Nat) (x0 : Value) (x1 : Value) (x2 : Int32) (h : cS) : cC (d + 1) 1202 [eR x0, eR x1, eI x2] h = cck h x0 12 (fX12_covers (cC d) x0 x1 x2 h) := rfl
theorem kX13_init (d : Nat) (x0 : Value) (x1 : Value) (h : cS) : cC (d + 1) 1300 [eR x0, eR x1] h = cck h x0 13 (fX13_init (cC d) x0 x1 h) := rfl
theorem kX14_has (d : Nat) (x0 : Value) (x1 : Value) (h : cS) : cC (d + 1) 1400 [eR x0, eR x1] h = cck h x0 14 (fX14_has (cC d) x0 x1 h) := rfl
theorem kX14_init (d : Nat) (x0 : Value) (x1 : Int64) (x3 : Value) (h : cS) : cC (d + 1) 1401 [eR x0, eL x1, eR x3] h = cck h x0 14 (fX14_init (cC d) x0 x1 x3 h) := rfl
theorem kX15_init (d : Nat) (x0 : Value) (x1 : Int32) (x2 : Int64) (x4 : Value) (h : cS) : cC (d + 1) 1500 [eR x0, eI x1, eL x2, eR x4] h = cck h x0 15 (fX15_init (cC d) x0 x1 x2 x4 h) := rfl
theorem kX15_fields (d : Nat) (x0 : Value) (h : cS) : cC (d + 1) 1501 [eR x0] h = cck h x0 15 (fX15_fields (cC d) x0 h) := rfl
theorem kX15_field (d : Nat) (x0 : Value) (x1 : Int64) (h : cS) : cC (d + 1) 1502 [eR x0, eL x1] h = cck h x0 15 (fX15_field (cC d) x0 x1 h) := rfl
theorem kX15_own (d : Nat) (x0 : Value) (x1 : Int64) (x3 : Int32) (h : cS) : cC (d + 1) 1503 [eR x0, eL x1, eI x3] h = cck h x0 15 (fX15_own (cC d) x0 x1 x3 h) := rfl
theorem kX15_method (d : Nat) (x0 : Value) (x1 : Int64) (x3 : Int32) (h : cS) : cC (d + 1) 1504 [eR x0, eL x1, eI x3] h = cck h x0 15 (fX15_method (cC d) x0 x1 x3 h) := rfl
theorem kX16_locals (d : Nat) (x0 : Value) (h : cS) : cC (d + 1) 1600 [eR x0] h = cck h x0 16 (fX16_locals (cC d) x0 h) := rfl
theorem kX16_init (d : Nat) (x0 : Value) (x1 : Int32) (x2 : Int32) (x3 : Int32) (x4 : Value) (x5 : Value) (h : cS) : cC (d + 1) 1601 [eR x0, eI x1, eI x2, eI x3, eR x4, eR x5] h = cck h x0 16 (fX16_init (cC d) x0 x1 x2 x3 x4 x5 h) := rfl
theorem kX16_add (d : Nat) (x0 : Value) (x1 : Int64) (h : cS) : cC (d + 1) 1602 [eR x0, eL x1] h = cck h x0 16 (fX16_add (cC d) x0 x1 h) := rfl
theorem kX16_reach (d : Nat) (x0 : Value) (x1 : Value) (h : cS) : cC (d + 1) 1603 [eR x0, eR x1] h = cck h x0 16 (fX16_reach (cC d) x0 x1 h) := rfl
theorem kX16_takes (d : Nat) (x0 : Value) (h : cS) : cC (d + 1) 1604 [eR x0] h = cck h x0 16 (fX16_takes (cC d) x0 h) := rfl
theorem kX17_init (d : Nat) (x0 : Value) (x1 : Int64) (x3 : Value) (x4 : Value) (x5 : Int32) (h : cS) : cC (d + 1) 1700 [eR x0, eL x1, eR x3, eR x4, eI x5] h = cck h x0 17 (fX17_init (cC d) x0 x1 x3 x4 x5 h) := rfl
theorem kX17_local (d : Nat) (x0 : Value) (h : cS) : cC (d + 1) 1701 [eR x0] h = cck h x0 17 (fX17_local (cC d) x0 h) := rfl
theorem kX18_init (d : Nat) (x0 : Value) (h : cS) : cC (d + 1) 1800 [eR x0] h = fX18_init (cC d) x0 h := rfl
theorem kX19_init (d : Nat) (x0 : Value) (x1 : Value) (x2 : Value) (x3 : Value) (h : cS) : cC (d + 1) 1900 [eR x0, eR x1, eR x2, eR x3] h = cck h x0 19 (fX19_init (cC d) x0 x1 x2 x3 h) := rfl
theorem kX19_lay (d : Nat) (x0 : Value) (x1 : Value) (h : cS) : cC (d + 1) 1901 [eR x0, eR x1] h = cck h x0 19 (fX19_lay (cC d) x0 x1 h) := rfl
theorem kX20_init (d : Nat) (x0 : Value) (x1 : Value) (x2 : Value) (x3 : Value) (h : cS) : cC (d + 1) 2000 [eR x0, eR x1, eR x2, eR x3] h = cck h x0 20 (fX20_init (cC d) x0 x1 x2 x3 h) := rfl
theorem kX20_lay (d : Nat) (x0 : Value) (x1 : Value) (h : cS) : cC (d + 1) 2001 [eR x0, eR x1] h = cck h x0 20 (fX20_lay (cC d) x0 x1 h) := rfl
theorem kX21_init (d : Nat) (x0 : Value) (x1 : Value) (x2 : Value) (x3 : Value) (h : cS) : cC (d + 1) 2100 [eR x0, eR x1, eR x2, eR x3] h = cck h x0 21 (fX21_init (cC d) x0 x1 x2 x3 h) := rfl
theorem kX21_lay (d : Nat) (x0 : Value) (x1 : Value) (h : cS) : cC (d + 1) 2101 [eR x0, eR x1] h = cck h x0 21 (fX21_lay (cC d) x0 x1 h) := rfl
theorem kX22_hasOne (d : Nat) (x0 : Value) (x1 : Value) (h : cS) : cC (d + 1) 2200 [eR x0, eR x1] h = fX22_hasOne (cC d) x0 x1 h := rfl
theorem kX22_init (d : Nat) (x0 : Value) (h : cS) : cC (d + 1) 2201 [eR x0] h = fX22_init (cC d) x0 h := rfl
theorem kX23_has (d : Nat) (x0 : Value) (x1 : Value) (h : cS) : cC (d + 1) 2300 [eR x0, eR x1] h = cck h x0 23 (fX23_has (cC d) x0 x1 h) := rfl
theorem kX23_init (d : Nat) (x0 : Value) (h : cS) : cC (d + 1) 2301 [eR x0] h = cck h x0 23 (fX23_init (cC d) x0 h) := rfl
theorem kX24_init (d : Nat) (x0 : Value) (x1 : Value) (x2 : Value) (h : cS) : cC (d + 1) 2400 [eR x0, eR x1, eR x2] h = cck h x0 24 (fX24_init (cC d) x0 x1 x2 h) := rfl
theorem kX24_lay (d : Nat) (x0 : Value) (x1 : Value) (h : cS) : cC (d + 1) 2401 [eR x0, eR x1] h = cck h x0 24 (fX24_lay (cC d) x0 x1 h) := rfl
theorem kX25_init (d : Nat) (x0 : Value) (x1 : Int32) (x2 : Int32) (h : cS) : cC (d + 1) 2500 [eR x0, eI x1, eI x2] h = cck h x0 25 (fX25_init (cC d) x0 x1 x2 h) := rfl
theorem kX25_lay (d : Nat) (x0 : Value) (x1 : Value) (h : cS) : cC (d + 1) 2501 [eR x0, eR x1] h = cck h x0 25 (fX25_lay (cC d) x0 x1 h) := rfl
theorem kX26_init (d : Nat) (x0 : Value) (x1 : Value) (h : cS) : cC (d + 1) 2600 [eR x0, eR x1] h = cck h x0 26 (fX26_init (cC d) x0 x1 h) := rfl
theorem kX26_lay (d : Nat) (x0 : Value) (x1 : Value) (h : cS) : cC (d + 1) 2601 [eR x0, eR x1] h = cck h x0 26 (fX26_lay (cC d) x0 x1 h) := rfl
theorem kX27_init (d : Nat) (x0 : Value) (x1 : Value) (h : cS) : cC (d + 1) 2700 [eR x0, eR x1] h = cck h x0 27 (fX27_init (cC d) x0 x1 h) := rfl
theorem kX27_lay (d : Nat) (x0 : Value) (x1 : Value) (h : cS) : cC (d + 1) 2701 [eR x0, eR x1] h = cck h x0 27 (fX27_lay (cC d) x0 x1 h) := rfl
theorem kX28_init (d : Nat) (x0 : Value) (h : cS) : cC (d + 1) 2800 [eR x0] h = cck h x0 28 (fX28_init (cC d) x0 h) := rfl
theorem kX28_lay (d : Nat) (x0 : Value) (x1 : Value) (h : cS) : cC (d + 1) 2801 [eR x0, eR x1] h = cck h x0 28 (fX28_lay (cC d) x0 x1 h) := rfl
theorem kX29_init (d : Nat) (x0 : Value) (x1 : Int32) (x2 : Int32) (x3 : Value) (h : cS) : cC (d + 1) 2900 [eR x0, eI x1, eI x2, eR x3] h = cck h x0 29 (fX29_init (cC d) x0 x1 x2 x3 h) := rfl
theorem kX29_lay (d : Nat) (x0 : Value) (x1 : Value) (h : cS) : cC (d + 1) 2901 [eR x0, eR x1] h = cck h x0 29 (fX29_lay (cC d) x0 x1 h) := rfl
theorem kX30_init (d : Nat) (x0 : Value) (x1 : Value) (x2 : Int32) (x3 : Int64) (x5 : Value) (h : cS) : cC (d + 1) 3000 [eR x0, eR x1, eI x2, eL x3, eR x5] h = cck h x0 30 (fX30_init (cC d) x0 x1 x2 x3 x5 h) := rfl
theorem kX30_lay (d : Nat) (x0 : Value) (x1 : Value) (h : cS) : cC (d + 1) 3001 [eR x0, eR x1] h = cck h x0 30 (fX30_lay (cC d) x0 x1 h) := rfl
theorem kX31_init (d : Nat) (x0 : Value) (x1 : Value) (x2 : Int32) (x3 : Value) (h : cS) : cC (d + 1) 3100 [eR x0, eR x1, eI x2, eR x3] h = cck h x0 31 (fX31_init (cC d) x0 x1 x2 x3 h) := rfl
theorem kX31_lay (d : Nat) (x0 : Value) (x1 : Value) (h : cS) : cC (d + 1) 3101 [eR x0, eR x1] h = cck h x0 31 (fX31_lay (cC d) x0 x1 h) := rfl
theorem kX32_init (d : Nat) (x0 : Value) (x1 : Value) (x2 : Value) (h : cS) : cC (d + 1) 3200 [eR x0, eR x1, eR x2] h = cck h x0 32 (fX32_init (cC d) x0 x1 x2 h) := rfl
theorem kX32_lay (d : Nat) (x0 : Value) (x1 : Value) (h : cS) : cC (d + 1) 3201 [eR x0, eR x1] h = cck h x0 32 (fX32_lay (cC d) x0 x1 h) := rfl
theorem kX33_init (d : Nat) (x0 : Value) (x1 : Int32) (x2 : Value) (x3 : Value) (h : cS) : cC (d + 1) 3300 [eR x0, eI x1, eR x2, eR x3] h = cck h x0 33 (fX33_init (cC d) x0 x1 x2 x3 h) := rfl
theorem kX33_lay (d : Nat) (x0 : Value) (x1 : Value) (h : cS) : cC (d + 1) 3301 [eR x0, eR x1] h = cck h x0 33 (fX33_lay (cC d) x0 x1 h) := rfl
theorem kX34_has (d : Nat) (x0 : Value) (x1 : Value) (h : cS) : cC (d + 1) 3400 [eR x0, eR x1] h = cck h x0 34 (fX34_has (cC d) x0 x1 h) := rfl
theorem kX34_init (d : Nat) (x0 : Value) (x1 : Value) (x2 : Int32) (h : cS) : cC (d + 1) 3401 [eR x0, eR x1, eI x2] h = cck h x0 34 (fX34_init (cC d) x0 x1 x2 h) := rfl
theorem kX35_init (d : Nat) (x0 : Value) (x1 : Value) (x2 : Value) (x3 : Int32) (h : cS) : cC (d + 1) 3500 [eR x0, eR x1, eR x2, eI x3] h = cck h x0 35 (fX35_init (cC d) x0 x1 x2 x3 h) := rfl
theorem kX35_all (d : Nat) (x0 : Value) (h : cS) : cC (d + 1) 3501 [eR x0] h = cck h x0 35 (fX35_all (cC d) x0 h) := rfl
theorem kX35_begins (d : Nat) (x0 : Value) (h : cS) : cC (d + 1) 3502 [eR x0] h = cck h x0 35 (fX35_begins (cC d) x0 h) := rfl
theorem kX35_lay (d : Nat) (x0 : Value) (x1 : Int32) (x2 : Int32) (h : cS) : cC (d + 1) 3503 [eR x0, eI x1, eI x2] h = cck h x0 35 (fX35_lay (cC d) x0 x1 x2 h) := rfl
theorem kX35_put (d : Nat) (x0 : Value) (x1 : Int32) (h : cS) : cC (d + 1) 3504 [eR x0, eI x1] h = cck h x0 35 (fX35_put (cC d) x0 x1 h) := rfl
theorem kX35_two (d : Nat) (x0 : Value) (x1 : Int32) (h : cS) : cC (d + 1) 3505 [eR x0, eI x1] h = cck h x0 35 (fX35_two (cC d) x0 x1 h) := rfl
theorem kX35_lay_2 (d : Nat) (x0 : Value) (x1 : Int32) (x2 : Int32) (x3 : Int32) (h : cS) : cC (d + 1) 3506 [eR x0, eI x1, eI x2, eI x3] h = cck h x0 35 (fX35_lay_2 (cC d) x0 x1 x2 x3 h) := rfl
theorem kX35_hands (d : Nat) (x0 : Value) (x1 : Int32) (h : cS) : cC (d + 1) 3507 [eR x0, eI x1] h = cck h x0 35 (fX35_hands (cC d) x0 x1 h) := rfl
theorem kX35_lay_3 (d : Nat) (x0 : Value) (x1 : Int32) (h : cS) : cC (d + 1) 3508 [eR x0, eI x1] h = cck h x0 35 (fX35_lay_3 (cC d) x0 x1 h) := rfl
theorem kX35_jump (d : Nat) (x0 : Value) (x1 : Int32) (h : cS) : cC (d + 1) 3509 [eR x0, eI x1] h = cck h x0 35 (fX35_jump (cC d) x0 x1 h) := rfl
theorem kX35_get (d : Nat) (x0 : Value) (x1 : Value) (h : cS) : cC (d + 1) 3510 [eR x0, eR x1] h = cck h x0 35 (fX35_get (cC d) x0 x1 h) := rfl
theorem kX35_here (d : Nat) (x0 : Value) (x1 : Int32) (h : cS) : cC (d + 1) 3511 [eR x0, eI x1] h = cck h x0 35 (fX35_here (cC d) x0 x1 h) := rfl
theorem kX35_captures (d : Nat) (x0 : Value) (x1 : Value) (h : cS) : cC (d + 1) 3512 [eR x0, eR x1] h = cck h x0 35 (fX35_captures (cC d) x0 x1 h) := rfl
theorem kX36_init (d : Nat) (x0 : Value) (x1 : Value) (x2 : Value) (h : cS) : cC (d + 1) 3600 [eR x0, eR x1, eR x2] h = cck h x0 36 (fX36_init (cC d) x0 x1 x2 h) := rfl
theorem kX36_all (d : Nat) (x0 : Value) (h : cS) : cC (d + 1) 3601 [eR x0] h = cck h x0 36 (fX36_all (cC d) x0 h) := rfl
theorem kX36_call (d : Nat) (x0 : Value) (x1 : Value) (x2 : Int32) (h : cS) : cC (d + 1) 3602 [eR x0, eR x1, eI x2] h = cck h x0 36 (fX36_call (cC d) x0 x1 x2 h) := rfl
theorem kX36_add (d : Nat) (x0 : Value) (x1 : Value) (x2 : Int32) (h : cS) : cC (d + 1) 3603 [eR x0, eR x1, eI x2] h = cck h x0 36 (fX36_add (cC d) x0 x1 x2 h) := rfl
theorem kX36_from (d : Nat) (x0 : Value) (x1 : Value) (x2 : Int32) (h : cS) : cC (d + 1) 3604 [eR x0, eR x1, eI x2] h = cck h x0 36 (fX36_from (cC d) x0 x1 x2 h) := rfl
theorem kX36_group (d : Nat) (x0 : Value) (x1 : Int32) (x2 : Int64) (x4 : Int32) (x5 : Int32) (h : cS) : cC (d + 1) 3605 [eR x0, eI x1, eL x2, eI x4, eI x5] h = cck h x0 36 (fX36_group (cC d) x0 x1 x2 x4 x5 h) := rfl
theorem kX36_inside (d : Nat) (x0 : Value) (x1 : Value) (x2 : Int32) (h : cS) : cC (d + 1) 3606 [eR x0, eR x1, eI x2] h = cck h x0 36 (fX36_inside (cC d) x0 x1 x2 h) := rfl
theorem kX37_init (d : Nat) (x0 : Value) (h : cS) : cC (d + 1) 3700 [eR x0] h = cck h x0 37 (fX37_init (cC d) x0 h) := rfl
theorem kX37_begin (d : Nat) (x0 : Value) (h : cS) : cC (d + 1) 3701 [eR x0] h = cck h x0 37 (fX37_begin (cC d) x0 h) := rfl
theorem kX37_push (d : Nat) (x0 : Value) (x1 : Int64) (h : cS) : cC (d + 1) 3702 [eR x0, eL x1] h = cck h x0 37 (fX37_push (cC d) x0 x1 h) := rfl
theorem kX37_pop (d : Nat) (x0 : Value) (h : cS) : cC (d + 1) 3703 [eR x0] h = cck h x0 37 (fX37_pop (cC d) x0 h) := rfl
theorem kX37_tries (d : Nat) (x0 : Value) (x1 : Int32) (h : cS) : cC (d + 1) 3704 [eR x0, eI x1] h = cck h x0 37 (fX37_tries (cC d) x0 x1 h) := rfl
