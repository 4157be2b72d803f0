set_option maxRecDepth 100000
/-! D0: what is read of a heap behind a write -/
theorem g_I_I (h : cS) (x : Nat) (a : Nat) (n : Int32) (y : Nat) (b : Nat) : cI (csI h x a n) y b = if y = x ∧ b = a then n else cI h y b := rfl
theorem g_L_I (h : cS) (x : Nat) (a : Nat) (n : Int32) (y : Nat) (b : Nat) : cL (csI h x a n) y b = cL h y b := rfl
theorem g_R_I (h : cS) (x : Nat) (a : Nat) (n : Int32) (y : Nat) (b : Nat) : cR (csI h x a n) y b = cR h y b := rfl
theorem g_AI_I (h : cS) (x : Nat) (a : Nat) (n : Int32) (y : Nat) (b : Nat) : cAI (csI h x a n) y b = cAI h y b := rfl
theorem g_AL_I (h : cS) (x : Nat) (a : Nat) (n : Int32) (y : Nat) (b : Nat) : cAL (csI h x a n) y b = cAL h y b := rfl
theorem g_AR_I (h : cS) (x : Nat) (a : Nat) (n : Int32) (y : Nat) (b : Nat) : cAR (csI h x a n) y b = cAR h y b := rfl
theorem g_Ls_I (h : cS) (x : Nat) (a : Nat) (n : Int32) (b : Nat) : cLs (csI h x a n) b = cLs h b := rfl
theorem g_Cap_I (h : cS) (x : Nat) (a : Nat) (n : Int32) (b : Nat) : cCap (csI h x a n) b = cCap h b := rfl
theorem g_Len_I (h : cS) (x : Nat) (a : Nat) (n : Int32) (b : Nat) : cLen (csI h x a n) b = cLen h b := rfl
theorem g_Cl_I (h : cS) (x : Nat) (a : Nat) (n : Int32) (b : Nat) : cCl (csI h x a n) b = cCl h b := rfl
theorem g_Nx_I (h : cS) (x : Nat) (a : Nat) (n : Int32) : cNx (csI h x a n) = cNx h := rfl
theorem g_Sl_I (h : cS) (x : Nat) (a : Nat) (n : Int32) : cSl (csI h x a n) = cSl h := rfl
theorem g_I_L (h : cS) (x : Nat) (a : Nat) (n : Int64) (y : Nat) (b : Nat) : cI (csL h x a n) y b = cI h y b := rfl
theorem g_L_L (h : cS) (x : Nat) (a : Nat) (n : Int64) (y : Nat) (b : Nat) : cL (csL h x a n) y b = if y = x ∧ b = a then n else cL h y b := rfl
theorem g_R_L (h : cS) (x : Nat) (a : Nat) (n : Int64) (y : Nat) (b : Nat) : cR (csL h x a n) y b = cR h y b := rfl
theorem g_AI_L (h : cS) (x : Nat) (a : Nat) (n : Int64) (y : Nat) (b : Nat) : cAI (csL h x a n) y b = cAI h y b := rfl
theorem g_AL_L (h : cS) (x : Nat) (a : Nat) (n : Int64) (y : Nat) (b : Nat) : cAL (csL h x a n) y b = cAL h y b := rfl
theorem g_AR_L (h : cS) (x : Nat) (a : Nat) (n : Int64) (y : Nat) (b : Nat) : cAR (csL h x a n) y b = cAR h y b := rfl
theorem g_Ls_L (h : cS) (x : Nat) (a : Nat) (n : Int64) (b : Nat) : cLs (csL h x a n) b = cLs h b := rfl
theorem g_Cap_L (h : cS) (x : Nat) (a : Nat) (n : Int64) (b : Nat) : cCap (csL h x a n) b = cCap h b := rfl
theorem g_Len_L (h : cS) (x : Nat) (a : Nat) (n : Int64) (b : Nat) : cLen (csL h x a n) b = cLen h b := rfl
theorem g_Cl_L (h : cS) (x : Nat) (a : Nat) (n : Int64) (b : Nat) : cCl (csL h x a n) b = cCl h b := rfl
theorem g_Nx_L (h : cS) (x : Nat) (a : Nat) (n : Int64) : cNx (csL h x a n) = cNx h := rfl
theorem g_Sl_L (h : cS) (x : Nat) (a : Nat) (n : Int64) : cSl (csL h x a n) = cSl h := rfl
theorem g_I_R (h : cS) (x : Nat) (a : Nat) (n : Value) (y : Nat) (b : Nat) : cI (csR h x a n) y b = cI h y b := rfl
theorem g_L_R (h : cS) (x : Nat) (a : Nat) (n : Value) (y : Nat) (b : Nat) : cL (csR h x a n) y b = cL h y b := rfl
theorem g_R_R (h : cS) (x : Nat) (a : Nat) (n : Value) (y : Nat) (b : Nat) : cR (csR h x a n) y b = if y = x ∧ b = a then n else cR h y b := rfl
theorem g_AI_R (h : cS) (x : Nat) (a : Nat) (n : Value) (y : Nat) (b : Nat) : cAI (csR h x a n) y b = cAI h y b := rfl
theorem g_AL_R (h : cS) (x : Nat) (a : Nat) (n : Value) (y : Nat) (b : Nat) : cAL (csR h x a n) y b = cAL h y b := rfl
theorem g_AR_R (h : cS) (x : Nat) (a : Nat) (n : Value) (y : Nat) (b : Nat) : cAR (csR h x a n) y b = cAR h y b := rfl
theorem g_Ls_R (h : cS) (x : Nat) (a : Nat) (n : Value) (b : Nat) : cLs (csR h x a n) b = cLs h b := rfl
theorem g_Cap_R (h : cS) (x : Nat) (a : Nat) (n : Value) (b : Nat) : cCap (csR h x a n) b = cCap h b := rfl
theorem g_Len_R (h : cS) (x : Nat) (a : Nat) (n : Value) (b : Nat) : cLen (csR h x a n) b = cLen h b := rfl
theorem g_Cl_R (h : cS) (x : Nat) (a : Nat) (n : Value) (b : Nat) : cCl (csR h x a n) b = cCl h b := rfl
theorem g_Nx_R (h : cS) (x : Nat) (a : Nat) (n : Value) : cNx (csR h x a n) = cNx h := rfl
theorem g_Sl_R (h : cS) (x : Nat) (a : Nat) (n : Value) : cSl (csR h x a n) = cSl h := rfl
theorem g_I_AI (h : cS) (x : Nat) (a : Nat) (n : Int32) (y : Nat) (b : Nat) : cI (csAI h x a n) y b = cI h y b := rfl
theorem g_L_AI (h : cS) (x : Nat) (a : Nat) (n : Int32) (y : Nat) (b : Nat) : cL (csAI h x a n) y b = cL h y b := rfl
theorem g_R_AI (h : cS) (x : Nat) (a : Nat) (n : Int32) (y : Nat) (b : Nat) : cR (csAI h x a n) y b = cR h y b := rfl
theorem g_AI_AI (h : cS) (x : Nat) (a : Nat) (n : Int32) (y : Nat) (b : Nat) : cAI (csAI h x a n) y b = if y = x ∧ b = a then n else cAI h y b := rfl
theorem g_AL_AI (h : cS) (x : Nat) (a : Nat) (n : Int32) (y : Nat) (b : Nat) : cAL (csAI h x a n) y b = cAL h y b := rfl
theorem g_AR_AI (h : cS) (x : Nat) (a : Nat) (n : Int32) (y : Nat) (b : Nat) : cAR (csAI h x a n) y b = cAR h y b := rfl
theorem g_Ls_AI (h : cS) (x : Nat) (a : Nat) (n : Int32) (b : Nat) : cLs (csAI h x a n) b = cLs h b := rfl
theorem g_Cap_AI (h : cS) (x : Nat) (a : Nat) (n : Int32) (b : Nat) : cCap (csAI h x a n) b = cCap h b := rfl
theorem g_Len_AI (h : cS) (x : Nat) (a : Nat) (n : Int32) (b : Nat) : cLen (csAI h x a n) b = cLen h b := rfl
theorem g_Cl_AI (h : cS) (x : Nat) (a : Nat) (n : Int32) (b : Nat) : cCl (csAI h x a n) b = cCl h b := rfl
theorem g_Nx_AI (h : cS) (x : Nat) (a : Nat) (n : Int32) : cNx (csAI h x a n) = cNx h := rfl
theorem g_Sl_AI (h : cS) (x : Nat) (a : Nat) (n : Int32) : cSl (csAI h x a n) = cSl h := rfl
theorem g_I_AL (h : cS) (x : Nat) (a : Nat) (n : Int64) (y : Nat) (b : Nat) : cI (csAL h x a n) y b = cI h y b := rfl
theorem g_L_AL (h : cS) (x : Nat) (a : Nat) (n : Int64) (y : Nat) (b : Nat) : cL (csAL h x a n) y b = cL h y b := rfl
theorem g_R_AL (h : cS) (x : Nat) (a : Nat) (n : Int64) (y : Nat) (b : Nat) : cR (csAL h x a n) y b = cR h y b := rfl
theorem g_AI_AL (h : cS) (x : Nat) (a : Nat) (n : Int64) (y : Nat) (b : Nat) : cAI (csAL h x a n) y b = cAI h y b := rfl
theorem g_AL_AL (h : cS) (x : Nat) (a : Nat) (n : Int64) (y : Nat) (b : Nat) : cAL (csAL h x a n) y b = if y = x ∧ b = a then n else cAL h y b := rfl
theorem g_AR_AL (h : cS) (x : Nat) (a : Nat) (n : Int64) (y : Nat) (b : Nat) : cAR (csAL h x a n) y b = cAR h y b := rfl
theorem g_Ls_AL (h : cS) (x : Nat) (a : Nat) (n : Int64) (b : Nat) : cLs (csAL h x a n) b = cLs h b := rfl
theorem g_Cap_AL (h : cS) (x : Nat) (a : Nat) (n : Int64) (b : Nat) : cCap (csAL h x a n) b = cCap h b := rfl
theorem g_Len_AL (h : cS) (x : Nat) (a : Nat) (n : Int64) (b : Nat) : cLen (csAL h x a n) b = cLen h b := rfl
theorem g_Cl_AL (h : cS) (x : Nat) (a : Nat) (n : Int64) (b : Nat) : cCl (csAL h x a n) b = cCl h b := rfl
theorem g_Nx_AL (h : cS) (x : Nat) (a : Nat) (n : Int64) : cNx (csAL h x a n) = cNx h := rfl
theorem g_Sl_AL (h : cS) (x : Nat) (a : Nat) (n : Int64) : cSl (csAL h x a n) = cSl h := rfl
theorem g_I_AR (h : cS) (x : Nat) (a : Nat) (n : Value) (y : Nat) (b : Nat) : cI (csAR h x a n) y b = cI h y b := rfl
theorem g_L_AR (h : cS) (x : Nat) (a : Nat) (n : Value) (y : Nat) (b : Nat) : cL (csAR h x a n) y b = cL h y b := rfl
theorem g_R_AR (h : cS) (x : Nat) (a : Nat) (n : Value) (y : Nat) (b : Nat) : cR (csAR h x a n) y b = cR h y b := rfl
theorem g_AI_AR (h : cS) (x : Nat) (a : Nat) (n : Value) (y : Nat) (b : Nat) : cAI (csAR h x a n) y b = cAI h y b := rfl
theorem g_AL_AR (h : cS) (x : Nat) (a : Nat) (n : Value) (y : Nat) (b : Nat) : cAL (csAR h x a n) y b = cAL h y b := rfl
theorem g_AR_AR (h : cS) (x : Nat) (a : Nat) (n : Value) (y : Nat) (b : Nat) : cAR (csAR h x a n) y b = if y = x ∧ b = a then n else cAR h y b := rfl
theorem g_Ls_AR (h : cS) (x : Nat) (a : Nat) (n : Value) (b : Nat) : cLs (csAR h x a n) b = cLs h b := rfl
theorem g_Cap_AR (h : cS) (x : Nat) (a : Nat) (n : Value) (b : Nat) : cCap (csAR h x a n) b = cCap h b := rfl
theorem g_Len_AR (h : cS) (x : Nat) (a : Nat) (n : Value) (b : Nat) : cLen (csAR h x a n) b = cLen h b := rfl
theorem g_Cl_AR (h : cS) (x : Nat) (a : Nat) (n : Value) (b : Nat) : cCl (csAR h x a n) b = cCl h b := rfl
theorem g_Nx_AR (h : cS) (x : Nat) (a : Nat) (n : Value) : cNx (csAR h x a n) = cNx h := rfl
theorem g_Sl_AR (h : cS) (x : Nat) (a : Nat) (n : Value) : cSl (csAR h x a n) = cSl h := rfl
theorem g_I_Ls (h : cS) (a : Nat) (n : List Value) (y : Nat) (b : Nat) : cI (csLs h a n) y b = cI h y b := rfl
theorem g_L_Ls (h : cS) (a : Nat) (n : List Value) (y : Nat) (b : Nat) : cL (csLs h a n) y b = cL h y b := rfl
theorem g_R_Ls (h : cS) (a : Nat) (n : List Value) (y : Nat) (b : Nat) : cR (csLs h a n) y b = cR h y b := rfl
theorem g_AI_Ls (h : cS) (a : Nat) (n : List Value) (y : Nat) (b : Nat) : cAI (csLs h a n) y b = cAI h y b := rfl
theorem g_AL_Ls (h : cS) (a : Nat) (n : List Value) (y : Nat) (b : Nat) : cAL (csLs h a n) y b = cAL h y b := rfl
theorem g_AR_Ls (h : cS) (a : Nat) (n : List Value) (y : Nat) (b : Nat) : cAR (csLs h a n) y b = cAR h y b := rfl
theorem g_Ls_Ls (h : cS) (a : Nat) (n : List Value) (b : Nat) : cLs (csLs h a n) b = if b = a then n else cLs h b := rfl
theorem g_Cap_Ls (h : cS) (a : Nat) (n : List Value) (b : Nat) : cCap (csLs h a n) b = cCap h b := rfl
theorem g_Len_Ls (h : cS) (a : Nat) (n : List Value) (b : Nat) : cLen (csLs h a n) b = cLen h b := rfl
theorem g_Cl_Ls (h : cS) (a : Nat) (n : List Value) (b : Nat) : cCl (csLs h a n) b = cCl h b := rfl
theorem g_Nx_Ls (h : cS) (a : Nat) (n : List Value) : cNx (csLs h a n) = cNx h := rfl
theorem g_Sl_Ls (h : cS) (a : Nat) (n : List Value) : cSl (csLs h a n) = cSl h := rfl
theorem g_I_Cap (h : cS) (a : Nat) (n : Nat) (y : Nat) (b : Nat) : cI (csCap h a n) y b = cI h y b := rfl
theorem g_L_Cap (h : cS) (a : Nat) (n : Nat) (y : Nat) (b : Nat) : cL (csCap h a n) y b = cL h y b := rfl
theorem g_R_Cap (h : cS) (a : Nat) (n : Nat) (y : Nat) (b : Nat) : cR (csCap h a n) y b = cR h y b := rfl
theorem g_AI_Cap (h : cS) (a : Nat) (n : Nat) (y : Nat) (b : Nat) : cAI (csCap h a n) y b = cAI h y b := rfl
theorem g_AL_Cap (h : cS) (a : Nat) (n : Nat) (y : Nat) (b : Nat) : cAL (csCap h a n) y b = cAL h y b := rfl
theorem g_AR_Cap (h : cS) (a : Nat) (n : Nat) (y : Nat) (b : Nat) : cAR (csCap h a n) y b = cAR h y b := rfl
theorem g_Ls_Cap (h : cS) (a : Nat) (n : Nat) (b : Nat) : cLs (csCap h a n) b = cLs h b := rfl
theorem g_Cap_Cap (h : cS) (a : Nat) (n : Nat) (b : Nat) : cCap (csCap h a n) b = if b = a then n else cCap h b := rfl
theorem g_Len_Cap (h : cS) (a : Nat) (n : Nat) (b : Nat) : cLen (csCap h a n) b = cLen h b := rfl
theorem g_Cl_Cap (h : cS) (a : Nat) (n : Nat) (b : Nat) : cCl (csCap h a n) b = cCl h b := rfl
theorem g_Nx_Cap (h : cS) (a : Nat) (n : Nat) : cNx (csCap h a n) = cNx h := rfl
theorem g_Sl_Cap (h : cS) (a : Nat) (n : Nat) : cSl (csCap h a n) = cSl h := rfl
theorem g_I_Len (h : cS) (a : Nat) (n : Nat) (y : Nat) (b : Nat) : cI (csLen h a n) y b = cI h y b := rfl
theorem g_L_Len (h : cS) (a : Nat) (n : Nat) (y : Nat) (b : Nat) : cL (csLen h a n) y b = cL h y b := rfl
theorem g_R_Len (h : cS) (a : Nat) (n : Nat) (y : Nat) (b : Nat) : cR (csLen h a n) y b = cR h y b := rfl
theorem g_AI_Len (h : cS) (a : Nat) (n : Nat) (y : Nat) (b : Nat) : cAI (csLen h a n) y b = cAI h y b := rfl
theorem g_AL_Len (h : cS) (a : Nat) (n : Nat) (y : Nat) (b : Nat) : cAL (csLen h a n) y b = cAL h y b := rfl
theorem g_AR_Len (h : cS) (a : Nat) (n : Nat) (y : Nat) (b : Nat) : cAR (csLen h a n) y b = cAR h y b := rfl
theorem g_Ls_Len (h : cS) (a : Nat) (n : Nat) (b : Nat) : cLs (csLen h a n) b = cLs h b := rfl
theorem g_Cap_Len (h : cS) (a : Nat) (n : Nat) (b : Nat) : cCap (csLen h a n) b = cCap h b := rfl
theorem g_Len_Len (h : cS) (a : Nat) (n : Nat) (b : Nat) : cLen (csLen h a n) b = if b = a then n else cLen h b := rfl
theorem g_Cl_Len (h : cS) (a : Nat) (n : Nat) (b : Nat) : cCl (csLen h a n) b = cCl h b := rfl
theorem g_Nx_Len (h : cS) (a : Nat) (n : Nat) : cNx (csLen h a n) = cNx h := rfl
theorem g_Sl_Len (h : cS) (a : Nat) (n : Nat) : cSl (csLen h a n) = cSl h := rfl
theorem g_I_Cl (h : cS) (a : Nat) (n : Nat) (y : Nat) (b : Nat) : cI (csCl h a n) y b = cI h y b := rfl
theorem g_L_Cl (h : cS) (a : Nat) (n : Nat) (y : Nat) (b : Nat) : cL (csCl h a n) y b = cL h y b := rfl
theorem g_R_Cl (h : cS) (a : Nat) (n : Nat) (y : Nat) (b : Nat) : cR (csCl h a n) y b = cR h y b := rfl
theorem g_AI_Cl (h : cS) (a : Nat) (n : Nat) (y : Nat) (b : Nat) : cAI (csCl h a n) y b = cAI h y b := rfl
theorem g_AL_Cl (h : cS) (a : Nat) (n : Nat) (y : Nat) (b : Nat) : cAL (csCl h a n) y b = cAL h y b := rfl
theorem g_AR_Cl (h : cS) (a : Nat) (n : Nat) (y : Nat) (b : Nat) : cAR (csCl h a n) y b = cAR h y b := rfl
theorem g_Ls_Cl (h : cS) (a : Nat) (n : Nat) (b : Nat) : cLs (csCl h a n) b = cLs h b := rfl
theorem g_Cap_Cl (h : cS) (a : Nat) (n : Nat) (b : Nat) : cCap (csCl h a n) b = cCap h b := rfl
theorem g_Len_Cl (h : cS) (a : Nat) (n : Nat) (b : Nat) : cLen (csCl h a n) b = cLen h b := rfl
theorem g_Cl_Cl (h : cS) (a : Nat) (n : Nat) (b : Nat) : cCl (csCl h a n) b = if b = a then n else cCl h b := rfl
theorem g_Nx_Cl (h : cS) (a : Nat) (n : Nat) : cNx (csCl h a n) = cNx h := rfl
theorem g_Sl_Cl (h : cS) (a : Nat) (n : Nat) : cSl (csCl h a n) = cSl h := rfl
theorem g_I_more (h : cS) (n : Nat) (y : Nat) (b : Nat) : cI (cmore h n) y b = cI h y b := rfl
theorem g_L_more (h : cS) (n : Nat) (y : Nat) (b : Nat) : cL (cmore h n) y b = cL h y b := rfl
theorem g_R_more (h : cS) (n : Nat) (y : Nat) (b : Nat) : cR (cmore h n) y b = cR h y b := rfl
theorem g_AI_more (h : cS) (n : Nat) (y : Nat) (b : Nat) : cAI (cmore h n) y b = cAI h y b := rfl
theorem g_AL_more (h : cS) (n : Nat) (y : Nat) (b : Nat) : cAL (cmore h n) y b = cAL h y b := rfl
theorem g_AR_more (h : cS) (n : Nat) (y : Nat) (b : Nat) : cAR (cmore h n) y b = cAR h y b := rfl
theorem g_Ls_more (h : cS) (n : Nat) (b : Nat) : cLs (cmore h n) b = cLs h b := rfl
theorem g_Cap_more (h : cS) (n : Nat) (b : Nat) : cCap (cmore h n) b = cCap h b := rfl
theorem g_Len_more (h : cS) (n : Nat) (b : Nat) : cLen (cmore h n) b = cLen h b := rfl
theorem g_Cl_more (h : cS) (n : Nat) (b : Nat) : cCl (cmore h n) b = cCl h b := rfl
theorem g_Nx_more (h : cS) (n : Nat) : cNx (cmore h n) = cNx h + 1 := rfl
theorem g_Sl_more (h : cS) (n : Nat) : cSl (cmore h n) = cSl h + n := rfl
theorem g_I_fAI (h : cS) (a : Nat) (n : Nat → Int32) (y : Nat) (b : Nat) : cI (cfAI h a n) y b = cI h y b := rfl
theorem g_L_fAI (h : cS) (a : Nat) (n : Nat → Int32) (y : Nat) (b : Nat) : cL (cfAI h a n) y b = cL h y b := rfl
theorem g_R_fAI (h : cS) (a : Nat) (n : Nat → Int32) (y : Nat) (b : Nat) : cR (cfAI h a n) y b = cR h y b := rfl
theorem g_AI_fAI (h : cS) (a : Nat) (n : Nat → Int32) (y : Nat) (b : Nat) : cAI (cfAI h a n) y b = if y = a then n b else cAI h y b := by show (if y = a then n else _) b = _; split <;> rfl
theorem g_AL_fAI (h : cS) (a : Nat) (n : Nat → Int32) (y : Nat) (b : Nat) : cAL (cfAI h a n) y b = cAL h y b := rfl
theorem g_AR_fAI (h : cS) (a : Nat) (n : Nat → Int32) (y : Nat) (b : Nat) : cAR (cfAI h a n) y b = cAR h y b := rfl
theorem g_Ls_fAI (h : cS) (a : Nat) (n : Nat → Int32) (b : Nat) : cLs (cfAI h a n) b = cLs h b := rfl
theorem g_Cap_fAI (h : cS) (a : Nat) (n : Nat → Int32) (b : Nat) : cCap (cfAI h a n) b = cCap h b := rfl
theorem g_Len_fAI (h : cS) (a : Nat) (n : Nat → Int32) (b : Nat) : cLen (cfAI h a n) b = cLen h b := rfl
theorem g_Cl_fAI (h : cS) (a : Nat) (n : Nat → Int32) (b : Nat) : cCl (cfAI h a n) b = cCl h b := rfl
theorem g_Nx_fAI (h : cS) (a : Nat) (n : Nat → Int32) : cNx (cfAI h a n) = cNx h := rfl
theorem g_Sl_fAI (h : cS) (a : Nat) (n : Nat → Int32) : cSl (cfAI h a n) = cSl h := rfl
theorem g_I_fAL (h : cS) (a : Nat) (n : Nat → Int64) (y : Nat) (b : Nat) : cI (cfAL h a n) y b = cI h y b := rfl
theorem g_L_fAL (h : cS) (a : Nat) (n : Nat → Int64) (y : Nat) (b : Nat) : cL (cfAL h a n) y b = cL h y b := rfl
theorem g_R_fAL (h : cS) (a : Nat) (n : Nat → Int64) (y : Nat) (b : Nat) : cR (cfAL h a n) y b = cR h y b := rfl
theorem g_AI_fAL (h : cS) (a : Nat) (n : Nat → Int64) (y : Nat) (b : Nat) : cAI (cfAL h a n) y b = cAI h y b := rfl
theorem g_AL_fAL (h : cS) (a : Nat) (n : Nat → Int64) (y : Nat) (b : Nat) : cAL (cfAL h a n) y b = if y = a then n b else cAL h y b := by show (if y = a then n else _) b = _; split <;> rfl
theorem g_AR_fAL (h : cS) (a : Nat) (n : Nat → Int64) (y : Nat) (b : Nat) : cAR (cfAL h a n) y b = cAR h y b := rfl
theorem g_Ls_fAL (h : cS) (a : Nat) (n : Nat → Int64) (b : Nat) : cLs (cfAL h a n) b = cLs h b := rfl
theorem g_Cap_fAL (h : cS) (a : Nat) (n : Nat → Int64) (b : Nat) : cCap (cfAL h a n) b = cCap h b := rfl
theorem g_Len_fAL (h : cS) (a : Nat) (n : Nat → Int64) (b : Nat) : cLen (cfAL h a n) b = cLen h b := rfl
theorem g_Cl_fAL (h : cS) (a : Nat) (n : Nat → Int64) (b : Nat) : cCl (cfAL h a n) b = cCl h b := rfl
theorem g_Nx_fAL (h : cS) (a : Nat) (n : Nat → Int64) : cNx (cfAL h a n) = cNx h := rfl
theorem g_Sl_fAL (h : cS) (a : Nat) (n : Nat → Int64) : cSl (cfAL h a n) = cSl h := rfl
theorem gC : (∀ (h : cS) (x : Nat) (a : Nat) (n : Int32) (y : Nat) (b : Nat), cI (csI h x a n) y b = if y = x ∧ b = a then n else cI h y b) ∧ (∀ (h : cS) (x : Nat) (a : Nat) (n : Int32) (y : Nat) (b : Nat), cL (csI h x a n) y b = cL h y b) ∧ (∀ (h : cS) (x : Nat) (a : Nat) (n : Int32) (y : Nat) (b : Nat), cR (csI h x a n) y b = cR h y b) ∧ (∀ (h : cS) (x : Nat) (a : Nat) (n : Int32) (y : Nat) (b : Nat), cAI (csI h x a n) y b = cAI h y b) ∧ (∀ (h : cS) (x : Nat) (a : Nat) (n : Int32) (y : Nat) (b : Nat), cAL (csI h x a n) y b = cAL h y b) ∧ (∀ (h : cS) (x : Nat) (a : Nat) (n : Int32) (y : Nat) (b : Nat), cAR (csI h x a n) y b = cAR h y b) ∧ (∀ (h : cS) (x : Nat) (a : Nat) (n : Int32) (b : Nat), cLs (csI h x a n) b = cLs h b) ∧ (∀ (h : cS) (x : Nat) (a : Nat) (n : Int32) (b : Nat), cCap (csI h x a n) b = cCap h b) ∧ (∀ (h : cS) (x : Nat) (a : Nat) (n : Int32) (b : Nat), cLen (csI h x a n) b = cLen h b) ∧ (∀ (h : cS) (x : Nat) (a : Nat) (n : Int32) (b : Nat), cCl (csI h x a n) b = cCl h b) ∧ (∀ (h : cS) (x : Nat) (a : Nat) (n : Int32), cNx (csI h x a n) = cNx h) ∧ (∀ (h : cS) (x : Nat) (a : Nat) (n : Int32), cSl (csI h x a n) = cSl h) ∧ (∀ (h : cS) (x : Nat) (a : Nat) (n : Int64) (y : Nat) (b : Nat), cI (csL h x a n) y b = cI h y b) ∧ (∀ (h : cS) (x : Nat) (a : Nat) (n : Int64) (y : Nat) (b : Nat), cL (csL h x a n) y b = if y = x ∧ b = a then n else cL h y b) ∧ (∀ (h : cS) (x : Nat) (a : Nat) (n : Int64) (y : Nat) (b : Nat), cR (csL h x a n) y b = cR h y b) ∧ (∀ (h : cS) (x : Nat) (a : Nat) (n : Int64) (y : Nat) (b : Nat), cAI (csL h x a n) y b = cAI h y b) ∧ (∀ (h : cS) (x : Nat) (a : Nat) (n : Int64) (y : Nat) (b : Nat), cAL (csL h x a n) y b = cAL h y b) ∧ (∀ (h : cS) (x : Nat) (a : Nat) (n : Int64) (y : Nat) (b : Nat), cAR (csL h x a n) y b = cAR h y b) ∧ (∀ (h : cS) (x : Nat) (a : Nat) (n : Int64) (b : Nat), cLs (csL h x a n) b = cLs h b) ∧ (∀ (h : cS) (x : Nat) (a : Nat) (n : Int64) (b : Nat), cCap (csL h x a n) b = cCap h b) ∧ (∀ (h : cS) (x : Nat) (a : Nat) (n : Int64) (b : Nat), cLen (csL h x a n) b = cLen h b) ∧ (∀ (h : cS) (x : Nat) (a : Nat) (n : Int64) (b : Nat), cCl (csL h x a n) b = cCl h b) ∧ (∀ (h : cS) (x : Nat) (a : Nat) (n : Int64), cNx (csL h x a n) = cNx h) ∧ (∀ (h : cS) (x : Nat) (a : Nat) (n : Int64), cSl (csL h x a n) = cSl h) ∧ (∀ (h : cS) (x : Nat) (a : Nat) (n : Value) (y : Nat) (b : Nat), cI (csR h x a n) y b = cI h y b) ∧ (∀ (h : cS) (x : Nat) (a : Nat) (n : Value) (y : Nat) (b : Nat), cL (csR h x a n) y b = cL h y b) ∧ (∀ (h : cS) (x : Nat) (a : Nat) (n : Value) (y : Nat) (b : Nat), cR (csR h x a n) y b = if y = x ∧ b = a then n else cR h y b) ∧ (∀ (h : cS) (x : Nat) (a : Nat) (n : Value) (y : Nat) (b : Nat), cAI (csR h x a n) y b = cAI h y b) ∧ (∀ (h : cS) (x : Nat) (a : Nat) (n : Value) (y : Nat) (b : Nat), cAL (csR h x a n) y b = cAL h y b) ∧ (∀ (h : cS) (x : Nat) (a : Nat) (n : Value) (y : Nat) (b : Nat), cAR (csR h x a n) y b = cAR h y b) ∧ (∀ (h : cS) (x : Nat) (a : Nat) (n : Value) (b : Nat), cLs (csR h x a n) b = cLs h b) ∧ (∀ (h : cS) (x : Nat) (a : Nat) (n : Value) (b : Nat), cCap (csR h x a n) b = cCap h b) ∧ (∀ (h : cS) (x : Nat) (a : Nat) (n : Value) (b : Nat), cLen (csR h x a n) b = cLen h b) ∧ (∀ (h : cS) (x : Nat) (a : Nat) (n : Value) (b : Nat), cCl (csR h x a n) b = cCl h b) ∧ (∀ (h : cS) (x : Nat) (a : Nat) (n : Value), cNx (csR h x a n) = cNx h) ∧ (∀ (h : cS) (x : Nat) (a : Nat) (n : Value), cSl (csR h x a n) = cSl h) ∧ (∀ (h : cS) (x : Nat) (a : Nat) (n : Int32) (y : Nat) (b : Nat), cI (csAI h x a n) y b = cI h y b) ∧ (∀ (h : cS) (x : Nat) (a : Nat) (n : Int32) (y : Nat) (b : Nat), cL (csAI h x a n) y b = cL h y b) ∧ (∀ (h : cS) (x : Nat) (a : Nat) (n : Int32) (y : Nat) (b : Nat), cR (csAI h x a n) y b = cR h y b) ∧ (∀ (h : cS) (x : Nat) (a : Nat) (n : Int32) (y : Nat) (b : Nat), cAI (csAI h x a n) y b = if y = x ∧ b = a then n else cAI h y b) ∧ (∀ (h : cS) (x : Nat) (a : Nat) (n : Int32) (y : Nat) (b : Nat), cAL (csAI h x a n) y b = cAL h y b) ∧ (∀ (h : cS) (x : Nat) (a : Nat) (n : Int32) (y : Nat) (b : Nat), cAR (csAI h x a n) y b = cAR h y b) ∧ (∀ (h : cS) (x : Nat) (a : Nat) (n : Int32) (b : Nat), cLs (csAI h x a n) b = cLs h b) ∧ (∀ (h : cS) (x : Nat) (a : Nat) (n : Int32) (b : Nat), cCap (csAI h x a n) b = cCap h b) ∧ (∀ (h : cS) (x : Nat) (a : Nat) (n : Int32) (b : Nat), cLen (csAI h x a n) b = cLen h b) ∧ (∀ (h : cS) (x : Nat) (a : Nat) (n : Int32) (b : Nat), cCl (csAI h x a n) b = cCl h b) ∧ (∀ (h : cS) (x : Nat) (a : Nat) (n : Int32), cNx (csAI h x a n) = cNx h) ∧ (∀ (h : cS) (x : Nat) (a : Nat) (n : Int32), cSl (csAI h x a n) = cSl h) ∧ (∀ (h : cS) (x : Nat) (a : Nat) (n : Int64) (y : Nat) (b : Nat), cI (csAL h x a n) y b = cI h y b) ∧ (∀ (h : cS) (x : Nat) (a : Nat) (n : Int64) (y : Nat) (b : Nat), cL (csAL h x a n) y b = cL h y b) ∧ (∀ (h : cS) (x : Nat) (a : Nat) (n : Int64) (y : Nat) (b : Nat), cR (csAL h x a n) y b = cR h y b) ∧ (∀ (h : cS) (x : Nat) (a : Nat) (n : Int64) (y : Nat) (b : Nat), cAI (csAL h x a n) y b = cAI h y b) ∧ (∀ (h : cS) (x : Nat) (a : Nat) (n : Int64) (y : Nat) (b : Nat), cAL (csAL h x a n) y b = if y = x ∧ b = a then n else cAL h y b) ∧ (∀ (h : cS) (x : Nat) (a : Nat) (n : Int64) (y : Nat) (b : Nat), cAR (csAL h x a n) y b = cAR h y b) ∧ (∀ (h : cS) (x : Nat) (a : Nat) (n : Int64) (b : Nat), cLs (csAL h x a n) b = cLs h b) ∧ (∀ (h : cS) (x : Nat) (a : Nat) (n : Int64) (b : Nat), cCap (csAL h x a n) b = cCap h b) ∧ (∀ (h : cS) (x : Nat) (a : Nat) (n : Int64) (b : Nat), cLen (csAL h x a n) b = cLen h b) ∧ (∀ (h : cS) (x : Nat) (a : Nat) (n : Int64) (b : Nat), cCl (csAL h x a n) b = cCl h b) ∧ (∀ (h : cS) (x : Nat) (a : Nat) (n : Int64), cNx (csAL h x a n) = cNx h) ∧ (∀ (h : cS) (x : Nat) (a : Nat) (n : Int64), cSl (csAL h x a n) = cSl h) ∧ (∀ (h : cS) (x : Nat) (a : Nat) (n : Value) (y : Nat) (b : Nat), cI (csAR h x a n) y b = cI h y b) ∧ (∀ (h : cS) (x : Nat) (a : Nat) (n : Value) (y : Nat) (b : Nat), cL (csAR h x a n) y b = cL h y b) ∧ (∀ (h : cS) (x : Nat) (a : Nat) (n : Value) (y : Nat) (b : Nat), cR (csAR h x a n) y b = cR h y b) ∧ (∀ (h : cS) (x : Nat) (a : Nat) (n : Value) (y : Nat) (b : Nat), cAI (csAR h x a n) y b = cAI h y b) ∧ (∀ (h : cS) (x : Nat) (a : Nat) (n : Value) (y : Nat) (b : Nat), cAL (csAR h x a n) y b = cAL h y b) ∧ (∀ (h : cS) (x : Nat) (a : Nat) (n : Value) (y : Nat) (b : Nat), cAR (csAR h x a n) y b = if y = x ∧ b = a then n else cAR h y b) ∧ (∀ (h : cS) (x : Nat) (a : Nat) (n : Value) (b : Nat), cLs (csAR h x a n) b = cLs h b) ∧ (∀ (h : cS) (x : Nat) (a : Nat) (n : Value) (b : Nat), cCap (csAR h x a n) b = cCap h b) ∧ (∀ (h : cS) (x : Nat) (a : Nat) (n : Value) (b : Nat), cLen (csAR h x a n) b = cLen h b) ∧ (∀ (h : cS) (x : Nat) (a : Nat) (n : Value) (b : Nat), cCl (csAR h x a n) b = cCl h b) ∧ (∀ (h : cS) (x : Nat) (a : Nat) (n : Value), cNx (csAR h x a n) = cNx h) ∧ (∀ (h : cS) (x : Nat) (a : Nat) (n : Value), cSl (csAR h x a n) = cSl h) ∧ (∀ (h : cS) (a : Nat) (n : List Value) (y : Nat) (b : Nat), cI (csLs h a n) y b = cI h y b) ∧ (∀ (h : cS) (a : Nat) (n : List Value) (y : Nat) (b : Nat), cL (csLs h a n) y b = cL h y b) ∧ (∀ (h : cS) (a : Nat) (n : List Value) (y : Nat) (b : Nat), cR (csLs h a n) y b = cR h y b) ∧ (∀ (h : cS) (a : Nat) (n : List Value) (y : Nat) (b : Nat), cAI (csLs h a n) y b = cAI h y b) ∧ (∀ (h : cS) (a : Nat) (n : List Value) (y : Nat) (b : Nat), cAL (csLs h a n) y b = cAL h y b) ∧ (∀ (h : cS) (a : Nat) (n : List Value) (y : Nat) (b : Nat), cAR (csLs h a n) y b = cAR h y b) ∧ (∀ (h : cS) (a : Nat) (n : List Value) (b : Nat), cLs (csLs h a n) b = if b = a then n else cLs h b) ∧ (∀ (h : cS) (a : Nat) (n : List Value) (b : Nat), cCap (csLs h a n) b = cCap h b) ∧ (∀ (h : cS) (a : Nat) (n : List Value) (b : Nat), cLen (csLs h a n) b = cLen h b) ∧ (∀ (h : cS) (a : Nat) (n : List Value) (b : Nat), cCl (csLs h a n) b = cCl h b) ∧ (∀ (h : cS) (a : Nat) (n : List Value), cNx (csLs h a n) = cNx h) ∧ (∀ (h : cS) (a : Nat) (n : List Value), cSl (csLs h a n) = cSl h) ∧ (∀ (h : cS) (a : Nat) (n : Nat) (y : Nat) (b : Nat), cI (csCap h a n) y b = cI h y b) ∧ (∀ (h : cS) (a : Nat) (n : Nat) (y : Nat) (b : Nat), cL (csCap h a n) y b = cL h y b) ∧ (∀ (h : cS) (a : Nat) (n : Nat) (y : Nat) (b : Nat), cR (csCap h a n) y b = cR h y b) ∧ (∀ (h : cS) (a : Nat) (n : Nat) (y : Nat) (b : Nat), cAI (csCap h a n) y b = cAI h y b) ∧ (∀ (h : cS) (a : Nat) (n : Nat) (y : Nat) (b : Nat), cAL (csCap h a n) y b = cAL h y b) ∧ (∀ (h : cS) (a : Nat) (n : Nat) (y : Nat) (b : Nat), cAR (csCap h a n) y b = cAR h y b) ∧ (∀ (h : cS) (a : Nat) (n : Nat) (b : Nat), cLs (csCap h a n) b = cLs h b) ∧ (∀ (h : cS) (a : Nat) (n : Nat) (b : Nat), cCap (csCap h a n) b = if b = a then n else cCap h b) ∧ (∀ (h : cS) (a : Nat) (n : Nat) (b : Nat), cLen (csCap h a n) b = cLen h b) ∧ (∀ (h : cS) (a : Nat) (n : Nat) (b : Nat), cCl (csCap h a n) b = cCl h b) ∧ (∀ (h : cS) (a : Nat) (n : Nat), cNx (csCap h a n) = cNx h) ∧ (∀ (h : cS) (a : Nat) (n : Nat), cSl (csCap h a n) = cSl h) ∧ (∀ (h : cS) (a : Nat) (n : Nat) (y : Nat) (b : Nat), cI (csLen h a n) y b = cI h y b) ∧ (∀ (h : cS) (a : Nat) (n : Nat) (y : Nat) (b : Nat), cL (csLen h a n) y b = cL h y b) ∧ (∀ (h : cS) (a : Nat) (n : Nat) (y : Nat) (b : Nat), cR (csLen h a n) y b = cR h y b) ∧ (∀ (h : cS) (a : Nat) (n : Nat) (y : Nat) (b : Nat), cAI (csLen h a n) y b = cAI h y b) ∧ (∀ (h : cS) (a : Nat) (n : Nat) (y : Nat) (b : Nat), cAL (csLen h a n) y b = cAL h y b) ∧ (∀ (h : cS) (a : Nat) (n : Nat) (y : Nat) (b : Nat), cAR (csLen h a n) y b = cAR h y b) ∧ (∀ (h : cS) (a : Nat) (n : Nat) (b : Nat), cLs (csLen h a n) b = cLs h b) ∧ (∀ (h : cS) (a : Nat) (n : Nat) (b : Nat), cCap (csLen h a n) b = cCap h b) ∧ (∀ (h : cS) (a : Nat) (n : Nat) (b : Nat), cLen (csLen h a n) b = if b = a then n else cLen h b) ∧ (∀ (h : cS) (a : Nat) (n : Nat) (b : Nat), cCl (csLen h a n) b = cCl h b) ∧ (∀ (h : cS) (a : Nat) (n : Nat), cNx (csLen h a n) = cNx h) ∧ (∀ (h : cS) (a : Nat) (n : Nat), cSl (csLen h a n) = cSl h) ∧ (∀ (h : cS) (a : Nat) (n : Nat) (y : Nat) (b : Nat), cI (csCl h a n) y b = cI h y b) ∧ (∀ (h : cS) (a : Nat) (n : Nat) (y : Nat) (b : Nat), cL (csCl h a n) y b = cL h y b) ∧ (∀ (h : cS) (a : Nat) (n : Nat) (y : Nat) (b : Nat), cR (csCl h a n) y b = cR h y b) ∧ (∀ (h : cS) (a : Nat) (n : Nat) (y : Nat) (b : Nat), cAI (csCl h a n) y b = cAI h y b) ∧ (∀ (h : cS) (a : Nat) (n : Nat) (y : Nat) (b : Nat), cAL (csCl h a n) y b = cAL h y b) ∧ (∀ (h : cS) (a : Nat) (n : Nat) (y : Nat) (b : Nat), cAR (csCl h a n) y b = cAR h y b) ∧ (∀ (h : cS) (a : Nat) (n : Nat) (b : Nat), cLs (csCl h a n) b = cLs h b) ∧ (∀ (h : cS) (a : Nat) (n : Nat) (b : Nat), cCap (csCl h a n) b = cCap h b) ∧ (∀ (h : cS) (a : Nat) (n : Nat) (b : Nat), cLen (csCl h a n) b = cLen h b) ∧ (∀ (h : cS) (a : Nat) (n : Nat) (b : Nat), cCl (csCl h a n) b = if b = a then n else cCl h b) ∧ (∀ (h : cS) (a : Nat) (n : Nat), cNx (csCl h a n) = cNx h) ∧ (∀ (h : cS) (a : Nat) (n : Nat), cSl (csCl h a n) = cSl h) ∧ (∀ (h : cS) (n : Nat) (y : Nat) (b : Nat), cI (cmore h n) y b = cI h y b) ∧ (∀ (h : cS) (n : Nat) (y : Nat) (b : Nat), cL (cmore h n) y b = cL h y b) ∧ (∀ (h : cS) (n : Nat) (y : Nat) (b : Nat), cR (cmore h n) y b = cR h y b) ∧ (∀ (h : cS) (n : Nat) (y : Nat) (b : Nat), cAI (cmore h n) y b = cAI h y b) ∧ (∀ (h : cS) (n : Nat) (y : Nat) (b : Nat), cAL (cmore h n) y b = cAL h y b) ∧ (∀ (h : cS) (n : Nat) (y : Nat) (b : Nat), cAR (cmore h n) y b = cAR h y b) ∧ (∀ (h : cS) (n : Nat) (b : Nat), cLs (cmore h n) b = cLs h b) ∧ (∀ (h : cS) (n : Nat) (b : Nat), cCap (cmore h n) b = cCap h b) ∧ (∀ (h : cS) (n : Nat) (b : Nat), cLen (cmore h n) b = cLen h b) ∧ (∀ (h : cS) (n : Nat) (b : Nat), cCl (cmore h n) b = cCl h b) ∧ (∀ (h : cS) (n : Nat), cNx (cmore h n) = cNx h + 1) ∧ (∀ (h : cS) (n : Nat), cSl (cmore h n) = cSl h + n) ∧ (∀ (h : cS) (a : Nat) (n : Nat → Int32) (y : Nat) (b : Nat), cI (cfAI h a n) y b = cI h y b) ∧ (∀ (h : cS) (a : Nat) (n : Nat → Int32) (y : Nat) (b : Nat), cL (cfAI h a n) y b = cL h y b) ∧ (∀ (h : cS) (a : Nat) (n : Nat → Int32) (y : Nat) (b : Nat), cR (cfAI h a n) y b = cR h y b) ∧ (∀ (h : cS) (a : Nat) (n : Nat → Int32) (y : Nat) (b : Nat), cAI (cfAI h a n) y b = if y = a then n b else cAI h y b) ∧ (∀ (h : cS) (a : Nat) (n : Nat → Int32) (y : Nat) (b : Nat), cAL (cfAI h a n) y b = cAL h y b) ∧ (∀ (h : cS) (a : Nat) (n : Nat → Int32) (y : Nat) (b : Nat), cAR (cfAI h a n) y b = cAR h y b) ∧ (∀ (h : cS) (a : Nat) (n : Nat → Int32) (b : Nat), cLs (cfAI h a n) b = cLs h b) ∧ (∀ (h : cS) (a : Nat) (n : Nat → Int32) (b : Nat), cCap (cfAI h a n) b = cCap h b) ∧ (∀ (h : cS) (a : Nat) (n : Nat → Int32) (b : Nat), cLen (cfAI h a n) b = cLen h b) ∧ (∀ (h : cS) (a : Nat) (n : Nat → Int32) (b : Nat), cCl (cfAI h a n) b = cCl h b) ∧ (∀ (h : cS) (a : Nat) (n : Nat → Int32), cNx (cfAI h a n) = cNx h) ∧ (∀ (h : cS) (a : Nat) (n : Nat → Int32), cSl (cfAI h a n) = cSl h) ∧ (∀ (h : cS) (a : Nat) (n : Nat → Int64) (y : Nat) (b : Nat), cI (cfAL h a n) y b = cI h y b) ∧ (∀ (h : cS) (a : Nat) (n : Nat → Int64) (y : Nat) (b : Nat), cL (cfAL h a n) y b = cL h y b) ∧ (∀ (h : cS) (a : Nat) (n : Nat → Int64) (y : Nat) (b : Nat), cR (cfAL h a n) y b = cR h y b) ∧ (∀ (h : cS) (a : Nat) (n : Nat → Int64) (y : Nat) (b : Nat), cAI (cfAL h a n) y b = cAI h y b) ∧ (∀ (h : cS) (a : Nat) (n : Nat → Int64) (y : Nat) (b : Nat), cAL (cfAL h a n) y b = if y = a then n b else cAL h y b) ∧ (∀ (h : cS) (a : Nat) (n : Nat → Int64) (y : Nat) (b : Nat), cAR (cfAL h a n) y b = cAR h y b) ∧ (∀ (h : cS) (a : Nat) (n : Nat → Int64) (b : Nat), cLs (cfAL h a n) b = cLs h b) ∧ (∀ (h : cS) (a : Nat) (n : Nat → Int64) (b : Nat), cCap (cfAL h a n) b = cCap h b) ∧ (∀ (h : cS) (a : Nat) (n : Nat → Int64) (b : Nat), cLen (cfAL h a n) b = cLen h b) ∧ (∀ (h : cS) (a : Nat) (n : Nat → Int64) (b : Nat), cCl (cfAL h a n) b = cCl h b) ∧ (∀ (h : cS) (a : Nat) (n : Nat → Int64), cNx (cfAL h a n) = cNx h) ∧ (∀ (h : cS) (a : Nat) (n : Nat → Int64), cSl (cfAL h a n) = cSl h) := ⟨@g_I_I, @g_L_I, @g_R_I, @g_AI_I, @g_AL_I, @g_AR_I, @g_Ls_I, @g_Cap_I, @g_Len_I, @g_Cl_I, @g_Nx_I, @g_Sl_I, @g_I_L, @g_L_L, @g_R_L, @g_AI_L, @g_AL_L, @g_AR_L, @g_Ls_L, @g_Cap_L, @g_Len_L, @g_Cl_L, @g_Nx_L, @g_Sl_L, @g_I_R, @g_L_R, @g_R_R, @g_AI_R, @g_AL_R, @g_AR_R, @g_Ls_R, @g_Cap_R, @g_Len_R, @g_Cl_R, @g_Nx_R, @g_Sl_R, @g_I_AI, @g_L_AI, @g_R_AI, @g_AI_AI, @g_AL_AI, @g_AR_AI, @g_Ls_AI, @g_Cap_AI, @g_Len_AI, @g_Cl_AI, @g_Nx_AI, @g_Sl_AI, @g_I_AL, @g_L_AL, @g_R_AL, @g_AI_AL, @g_AL_AL, @g_AR_AL, @g_Ls_AL, @g_Cap_AL, @g_Len_AL, @g_Cl_AL, @g_Nx_AL, @g_Sl_AL, @g_I_AR, @g_L_AR, @g_R_AR, @g_AI_AR, @g_AL_AR, @g_AR_AR, @g_Ls_AR, @g_Cap_AR, @g_Len_AR, @g_Cl_AR, @g_Nx_AR, @g_Sl_AR, @g_I_Ls, @g_L_Ls, @g_R_Ls, @g_AI_Ls, @g_AL_Ls, @g_AR_Ls, @g_Ls_Ls, @g_Cap_Ls, @g_Len_Ls, @g_Cl_Ls, @g_Nx_Ls, @g_Sl_Ls, @g_I_Cap, @g_L_Cap, @g_R_Cap, @g_AI_Cap, @g_AL_Cap, @g_AR_Cap, @g_Ls_Cap, @g_Cap_Cap, @g_Len_Cap, @g_Cl_Cap, @g_Nx_Cap, @g_Sl_Cap, @g_I_Len, @g_L_Len, @g_R_Len, @g_AI_Len, @g_AL_Len, @g_AR_Len, @g_Ls_Len, @g_Cap_Len, @g_Len_Len, @g_Cl_Len, @g_Nx_Len, @g_Sl_Len, @g_I_Cl, @g_L_Cl, @g_R_Cl, @g_AI_Cl, @g_AL_Cl, @g_AR_Cl, @g_Ls_Cl, @g_Cap_Cl, @g_Len_Cl, @g_Cl_Cl, @g_Nx_Cl, @g_Sl_Cl, @g_I_more, @g_L_more, @g_R_more, @g_AI_more, @g_AL_more, @g_AR_more, @g_Ls_more, @g_Cap_more, @g_Len_more, @g_Cl_more, @g_Nx_more, @g_Sl_more, @g_I_fAI, @g_L_fAI, @g_R_fAI, @g_AI_fAI, @g_AL_fAI, @g_AR_fAI, @g_Ls_fAI, @g_Cap_fAI, @g_Len_fAI, @g_Cl_fAI, @g_Nx_fAI, @g_Sl_fAI, @g_I_fAL, @g_L_fAL, @g_R_fAL, @g_AI_fAL, @g_AL_fAL, @g_AR_fAL, @g_Ls_fAL, @g_Cap_fAL, @g_Len_fAL, @g_Cl_fAL, @g_Nx_fAL, @g_Sl_fAL⟩
theorem t_I_I (h : tS) (x : Nat) (n : Int32) (y : Nat) : tI (tsI h x n) y = if y = x then n else tI h y := rfl
theorem t_L_I (h : tS) (x : Nat) (n : Int32) (y : Nat) : tL (tsI h x n) y = tL h y := rfl
theorem t_A_I (h : tS) (x : Nat) (n : Int32) (y : Nat) (i : Nat) : tA (tsI h x n) y i = tA h y i := rfl
theorem t_B_I (h : tS) (x : Nat) (n : Int32) (y : Nat) (i : Nat) : tB (tsI h x n) y i = tB h y i := rfl
theorem t_I_L (h : tS) (x : Nat) (n : Int64) (y : Nat) : tI (tsL h x n) y = tI h y := rfl
theorem t_L_L (h : tS) (x : Nat) (n : Int64) (y : Nat) : tL (tsL h x n) y = if y = x then n else tL h y := rfl
theorem t_A_L (h : tS) (x : Nat) (n : Int64) (y : Nat) (i : Nat) : tA (tsL h x n) y i = tA h y i := rfl
theorem t_B_L (h : tS) (x : Nat) (n : Int64) (y : Nat) (i : Nat) : tB (tsL h x n) y i = tB h y i := rfl
theorem t_I_A (h : tS) (x : Nat) (j : Nat) (n : Int32) (y : Nat) : tI (tsA h x j n) y = tI h y := rfl
theorem t_L_A (h : tS) (x : Nat) (j : Nat) (n : Int32) (y : Nat) : tL (tsA h x j n) y = tL h y := rfl
theorem t_A_A (h : tS) (x : Nat) (j : Nat) (n : Int32) (y : Nat) (i : Nat) : tA (tsA h x j n) y i = if y = x ∧ i = j then n else tA h y i := rfl
theorem t_B_A (h : tS) (x : Nat) (j : Nat) (n : Int32) (y : Nat) (i : Nat) : tB (tsA h x j n) y i = tB h y i := rfl
theorem t_I_B (h : tS) (x : Nat) (j : Nat) (n : Int64) (y : Nat) : tI (tsB h x j n) y = tI h y := rfl
theorem t_L_B (h : tS) (x : Nat) (j : Nat) (n : Int64) (y : Nat) : tL (tsB h x j n) y = tL h y := rfl
theorem t_A_B (h : tS) (x : Nat) (j : Nat) (n : Int64) (y : Nat) (i : Nat) : tA (tsB h x j n) y i = tA h y i := rfl
theorem t_B_B (h : tS) (x : Nat) (j : Nat) (n : Int64) (y : Nat) (i : Nat) : tB (tsB h x j n) y i = if y = x ∧ i = j then n else tB h y i := rfl
theorem gT : (∀ (h : tS) (x : Nat) (n : Int32) (y : Nat), tI (tsI h x n) y = if y = x then n else tI h y) ∧ (∀ (h : tS) (x : Nat) (n : Int32) (y : Nat), tL (tsI h x n) y = tL h y) ∧ (∀ (h : tS) (x : Nat) (n : Int32) (y : Nat) (i : Nat), tA (tsI h x n) y i = tA h y i) ∧ (∀ (h : tS) (x : Nat) (n : Int32) (y : Nat) (i : Nat), tB (tsI h x n) y i = tB h y i) ∧ (∀ (h : tS) (x : Nat) (n : Int64) (y : Nat), tI (tsL h x n) y = tI h y) ∧ (∀ (h : tS) (x : Nat) (n : Int64) (y : Nat), tL (tsL h x n) y = if y = x then n else tL h y) ∧ (∀ (h : tS) (x : Nat) (n : Int64) (y : Nat) (i : Nat), tA (tsL h x n) y i = tA h y i) ∧ (∀ (h : tS) (x : Nat) (n : Int64) (y : Nat) (i : Nat), tB (tsL h x n) y i = tB h y i) ∧ (∀ (h : tS) (x : Nat) (j : Nat) (n : Int32) (y : Nat), tI (tsA h x j n) y = tI h y) ∧ (∀ (h : tS) (x : Nat) (j : Nat) (n : Int32) (y : Nat), tL (tsA h x j n) y = tL h y) ∧ (∀ (h : tS) (x : Nat) (j : Nat) (n : Int32) (y : Nat) (i : Nat), tA (tsA h x j n) y i = if y = x ∧ i = j then n else tA h y i) ∧ (∀ (h : tS) (x : Nat) (j : Nat) (n : Int32) (y : Nat) (i : Nat), tB (tsA h x j n) y i = tB h y i) ∧ (∀ (h : tS) (x : Nat) (j : Nat) (n : Int64) (y : Nat), tI (tsB h x j n) y = tI h y) ∧ (∀ (h : tS) (x : Nat) (j : Nat) (n : Int64) (y : Nat), tL (tsB h x j n) y = tL h y) ∧ (∀ (h : tS) (x : Nat) (j : Nat) (n : Int64) (y : Nat) (i : Nat), tA (tsB h x j n) y i = tA h y i) ∧ (∀ (h : tS) (x : Nat) (j : Nat) (n : Int64) (y : Nat) (i : Nat), tB (tsB h x j n) y i = if y = x ∧ i = j then n else tB h y i) := ⟨@t_I_I, @t_L_I, @t_A_I, @t_B_I, @t_I_L, @t_L_L, @t_A_L, @t_B_L, @t_I_A, @t_L_A, @t_A_A, @t_B_A, @t_I_B, @t_L_B, @t_A_B, @t_B_B⟩
theorem r_cgI (h : cS) (x a : Nat) (K : Int32 → cRes) : cgI h x (.ref a) K = if cCl h a = x / 100 then K (cI h x a) else none := rfl
theorem r_cgL (h : cS) (x a : Nat) (K : Int64 → cRes) : cgL h x (.ref a) K = if cCl h a = x / 100 then K (cL h x a) else none := rfl
theorem r_cgR (h : cS) (x a : Nat) (K : Value → cRes) : cgR h x (.ref a) K = if cCl h a = x / 100 then K (cR h x a) else none := rfl
theorem r_cpI (h : cS) (x a : Nat) (n : Int32) (K : cS → cRes) : cpI h x (.ref a) n K = if cCl h a = x / 100 then K (csI h x a n) else none := rfl
theorem r_cpL (h : cS) (x a : Nat) (n : Int64) (K : cS → cRes) : cpL h x (.ref a) n K = if cCl h a = x / 100 then K (csL h x a n) else none := rfl
theorem r_cpZ (h : cS) (x a : Nat) (n : Int32) (K : cS → cRes) : cpZ h x (.ref a) n K = if cCl h a = x / 100 ∧ (n = 0 ∨ n = 1) then K (csI h x a n) else none := rfl
theorem r_cpR (h : cS) (x a : Nat) (n : Value) (K : cS → cRes) : cpR h x (.ref a) n K = if cCl h a = x / 100 ∧ misR n = true then K (csR h x a n) else none := rfl
theorem r_clen (h : cS) (a : Nat) (K : Int32 → cRes) : clen h (.ref a) K = if 1 ≤ cak (cCl h a) ∧ cak (cCl h a) ≤ 7 then K (Int32.ofNat (cLen h a)) else none := rfl
theorem r_cck (h : cS) (a c : Nat) (r : cRes) : cck h (.ref a) c r = if cCl h a = c then r else none := rfl
theorem r_cthr (h : cS) (a : Nat) : cthr h (.ref a) = if cisO (cCl h a) = true then some (.inr (.ref a), h) else none := rfl
theorem r_cnw (h : cS) (t : Nat) (K : Value → cS → cRes) : cnw h t K = K (.ref (cNx h)) (cmore (csCl h (cNx h) t) (csz t)) := rfl
theorem r_castN (h : cS) (k : Nat) (K : Value → cRes) : ccast h k .null K = K .null := rfl
theorem r_castR (h : cS) (k a : Nat) (K : Value → cRes) : ccast h k (.ref a) K = if cCl h a = k ∨ (k = 52 ∧ cpart (cCl h a) = true) then K (.ref a) else none := rfl
theorem r_castF (h : cS) (b : UInt32) (K : Value → cRes) : ccast h 50 (.float b) K = K (.float b) := rfl
theorem r_castD (h : cS) (b : UInt64) (K : Value → cRes) : ccast h 51 (.double b) K = K (.double b) := rfl
theorem r_misN : misR Value.null = true := rfl
theorem r_misR (a : Nat) : misR (Value.ref a) = true := rfl
theorem rC : (∀ (h : cS) (x a : Nat) (K : Int32 → cRes), cgI h x (.ref a) K = if cCl h a = x / 100 then K (cI h x a) else none) ∧ (∀ (h : cS) (x a : Nat) (K : Int64 → cRes), cgL h x (.ref a) K = if cCl h a = x / 100 then K (cL h x a) else none) ∧ (∀ (h : cS) (x a : Nat) (K : Value → cRes), cgR h x (.ref a) K = if cCl h a = x / 100 then K (cR h x a) else none) ∧ (∀ (h : cS) (x a : Nat) (n : Int32) (K : cS → cRes), cpI h x (.ref a) n K = if cCl h a = x / 100 then K (csI h x a n) else none) ∧ (∀ (h : cS) (x a : Nat) (n : Int64) (K : cS → cRes), cpL h x (.ref a) n K = if cCl h a = x / 100 then K (csL h x a n) else none) ∧ (∀ (h : cS) (x a : Nat) (n : Int32) (K : cS → cRes), cpZ h x (.ref a) n K = if cCl h a = x / 100 ∧ (n = 0 ∨ n = 1) then K (csI h x a n) else none) ∧ (∀ (h : cS) (x a : Nat) (n : Value) (K : cS → cRes), cpR h x (.ref a) n K = if cCl h a = x / 100 ∧ misR n = true then K (csR h x a n) else none) ∧ (∀ (h : cS) (a : Nat) (K : Int32 → cRes), clen h (.ref a) K = if 1 ≤ cak (cCl h a) ∧ cak (cCl h a) ≤ 7 then K (Int32.ofNat (cLen h a)) else none) ∧ (∀ (h : cS) (a c : Nat) (r : cRes), cck h (.ref a) c r = if cCl h a = c then r else none) ∧ (∀ (h : cS) (a : Nat), cthr h (.ref a) = if cisO (cCl h a) = true then some (.inr (.ref a), h) else none) ∧ (∀ (h : cS) (t : Nat) (K : Value → cS → cRes), cnw h t K = K (.ref (cNx h)) (cmore (csCl h (cNx h) t) (csz t))) ∧ (∀ (h : cS) (k : Nat) (K : Value → cRes), ccast h k .null K = K .null) ∧ (∀ (h : cS) (k a : Nat) (K : Value → cRes), ccast h k (.ref a) K = if cCl h a = k ∨ (k = 52 ∧ cpart (cCl h a) = true) then K (.ref a) else none) ∧ (∀ (h : cS) (b : UInt32) (K : Value → cRes), ccast h 50 (.float b) K = K (.float b)) ∧ (∀ (h : cS) (b : UInt64) (K : Value → cRes), ccast h 51 (.double b) K = K (.double b)) ∧ (∀ (a : Nat), misR (Value.ref a) = true) := ⟨@r_cgI, @r_cgL, @r_cgR, @r_cpI, @r_cpL, @r_cpZ, @r_cpR, @r_clen, @r_cck, @r_cthr, @r_cnw, @r_castN, @r_castR, @r_castF, @r_castD, @r_misR⟩
theorem r_tpI (h : tS) (x : Nat) (n : Int32) (K : tS → tR) : tpI h x n K = K (tsI h x n) := rfl
theorem r_tpL (h : tS) (x : Nat) (n : Int64) (K : tS → tR) : tpL h x n K = K (tsL h x n) := rfl
theorem r_tpZ (h : tS) (x : Nat) (n : Int32) (K : tS → tR) : tpZ h x n K = if n = 0 ∨ n = 1 then K (tsI h x n) else none := rfl
theorem r_mz (X : Type) (a : Int32) (r : mR X) : mz a r = if a = 0 ∨ a = 1 then r else none := rfl
theorem rT : (∀ (h : tS) (x : Nat) (n : Int32) (K : tS → tR), tpI h x n K = K (tsI h x n)) ∧ (∀ (h : tS) (x : Nat) (n : Int64) (K : tS → tR), tpL h x n K = K (tsL h x n)) ∧ (∀ (h : tS) (x : Nat) (n : Int32) (K : tS → tR), tpZ h x n K = if n = 0 ∨ n = 1 then K (tsI h x n) else none) ∧ (∀ (X : Type) (a : Int32) (r : mR X), mz a r = if a = 0 ∨ a = 1 then r else none) := ⟨@r_tpI, @r_tpL, @r_tpZ, @r_mz⟩
theorem b_I (X : Type) (n : Int32) (h : X) (K : Int32 → X → mR X) : bI (some (.inl (some (eI n)), h)) K = K n h := rfl
theorem b_Ix (X : Type) (v : Value) (h : X) (K : Int32 → X → mR X) : bI (some (.inr v, h)) K = some (.inr v, h) := rfl
theorem b_L (X : Type) (n : Int64) (h : X) (K : Int64 → X → mR X) : bL (some (.inl (some (eL n)), h)) K = K n h := rfl
theorem b_Lx (X : Type) (v : Value) (h : X) (K : Int64 → X → mR X) : bL (some (.inr v, h)) K = some (.inr v, h) := rfl
theorem b_R (X : Type) (n : Value) (h : X) (K : Value → X → mR X) : bR (some (.inl (some (eR n)), h)) K = K n h := rfl
theorem b_Rx (X : Type) (v : Value) (h : X) (K : Value → X → mR X) : bR (some (.inr v, h)) K = some (.inr v, h) := rfl
theorem b_V (X : Type) (h : X) (K : X → mR X) : bV (some (.inl none, h)) K = K h := rfl
theorem b_Vx (X : Type) (v : Value) (h : X) (K : X → mR X) : bV (some (.inr v, h)) K = some (.inr v, h) := rfl
theorem bB : (∀ (X : Type) (n : Int32) (h : X) (K : Int32 → X → mR X), bI (some (.inl (some (eI n)), h)) K = K n h) ∧ (∀ (X : Type) (v : Value) (h : X) (K : Int32 → X → mR X), bI (some (.inr v, h)) K = some (.inr v, h)) ∧ (∀ (X : Type) (n : Int64) (h : X) (K : Int64 → X → mR X), bL (some (.inl (some (eL n)), h)) K = K n h) ∧ (∀ (X : Type) (v : Value) (h : X) (K : Int64 → X → mR X), bL (some (.inr v, h)) K = some (.inr v, h)) ∧ (∀ (X : Type) (n : Value) (h : X) (K : Value → X → mR X), bR (some (.inl (some (eR n)), h)) K = K n h) ∧ (∀ (X : Type) (v : Value) (h : X) (K : Value → X → mR X), bR (some (.inr v, h)) K = some (.inr v, h)) ∧ (∀ (X : Type) (h : X) (K : X → mR X), bV (some (.inl none, h)) K = K h) ∧ (∀ (X : Type) (v : Value) (h : X) (K : X → mR X), bV (some (.inr v, h)) K = some (.inr v, h)) := ⟨@b_I, @b_Ix, @b_L, @b_Lx, @b_R, @b_Rx, @b_V, @b_Vx⟩
theorem p_any (d m : Nat) (as : List mE) (h : cS) (hm : Nat.ble 9000 m = true) : cC (d + 9) m as h = cPrim m as h := by
  have q : cC (d + 9) m as h = cond (Nat.ble 9000 m) (cond (Nat.ble 8 (d + 8)) (cPrim m as h) none) (cond (Nat.beq m 8000) (clay (cC (d + 8)) as h) (nthD (fun _ _ _ => none) (nthD [] cTab (m / 100)) (m % 100) (cC (d + 8)) as h)) := rfl
  rw [q, hm, Nat.ble_eq_true_of_le (by omega)]
  rfl
theorem pq_ini (d : Nat) (a : Nat) (n : Int32) (h : cS) : cC (d + 9) 9101 [eR (.ref a), eI n] h = clini h a n := (p_any d 9101 _ h rfl).trans rfl
theorem pq_ini0 (d : Nat) (a : Nat) (h : cS) : cC (d + 9) 9102 [eR (.ref a)] h = clini0 h a := (p_any d 9102 _ h rfl).trans rfl
theorem pq_sz (d : Nat) (a : Nat) (h : cS) : cC (d + 9) 9103 [eR (.ref a)] h = clsz h a := (p_any d 9103 _ h rfl).trans rfl
theorem pq_get (d : Nat) (a : Nat) (k : Int32) (h : cS) : cC (d + 9) 9104 [eR (.ref a), eI k] h = clget h a k := (p_any d 9104 _ h rfl).trans rfl
theorem pq_add (d : Nat) (a : Nat) (v : Value) (h : cS) : cC (d + 9) 9105 [eR (.ref a), eR v] h = cladd h a v := (p_any d 9105 _ h rfl).trans rfl
theorem pq_set (d : Nat) (a : Nat) (k : Int32) (v : Value) (h : cS) : cC (d + 9) 9106 [eR (.ref a), eI k, eR v] h = clset h a k v := (p_any d 9106 _ h rfl).trans rfl
theorem pq_rem (d : Nat) (a : Nat) (k : Int32) (h : cS) : cC (d + 9) 9107 [eR (.ref a), eI k] h = clrem h a k := (p_any d 9107 _ h rfl).trans rfl
theorem pq_clr (d : Nat) (a : Nat) (h : cS) : cC (d + 9) 9108 [eR (.ref a)] h = clclr h a := (p_any d 9108 _ h rfl).trans rfl
theorem pq_boxI (d : Nat) (n : Int32) (h : cS) : cC (d + 9) 9110 [eI n] h = cboxI h n := (p_any d 9110 _ h rfl).trans rfl
theorem pq_unI (d : Nat) (b : UInt32) (h : cS) : cC (d + 9) 9111 [eR (.float b)] h = cret (eI b.toInt32) h := (p_any d 9111 _ h rfl).trans rfl
theorem pq_boxL (d : Nat) (n : Int64) (h : cS) : cC (d + 9) 9112 [eL n] h = cboxL h n := (p_any d 9112 _ h rfl).trans rfl
theorem pq_unL (d : Nat) (b : UInt64) (h : cS) : cC (d + 9) 9113 [eR (.double b)] h = cret (eL b.toInt64) h := (p_any d 9113 _ h rfl).trans rfl
theorem pq_cpB (d : Nat) (a : Nat) (n : Int32) (h : cS) : cC (d + 9) 9120 [eR (.ref a), eI n] h = ccpyI h 1 a n := (p_any d 9120 _ h rfl).trans rfl
theorem pq_cpI (d : Nat) (a : Nat) (n : Int32) (h : cS) : cC (d + 9) 9121 [eR (.ref a), eI n] h = ccpyI h 2 a n := (p_any d 9121 _ h rfl).trans rfl
theorem pq_cpL (d : Nat) (a : Nat) (n : Int32) (h : cS) : cC (d + 9) 9122 [eR (.ref a), eI n] h = ccpyL h a n := (p_any d 9122 _ h rfl).trans rfl
theorem pq_len (d : Nat) (s : Nat) (h : cS) : cC (d + 9) 9000 [eR (.retAddr s)] h = cret (eI (Int32.ofNat (nthD [] cStrs s).length)) h := (p_any d 9000 _ h rfl).trans rfl
theorem pq_chr (d : Nat) (s : Nat) (k : Int32) (h : cS) : cC (d + 9) 9001 [eR (.retAddr s), eI k] h = cchr h s k := (p_any d 9001 _ h rfl).trans rfl
theorem pq_idx (d : Nat) (s : Nat) (c : Int32) (h : cS) : cC (d + 9) 9003 [eR (.retAddr s), eI c] h = cret (eI (tFind c.toNatClampNeg (nthD [] cStrs s) 0)) h := (p_any d 9003 _ h rfl).trans rfl
theorem pq_wro (d : Nat) (a : Nat) (h : cS) : cC (d + 9) 9130 [eR (.ref a), eR .null, eR .null, eI 0, eI 0] h = if cCl h a = 11 then some (.inl none, h) else none := (p_any d 9130 _ h rfl).trans rfl
theorem pq_iae (d : Nat) (a : Nat) (h : cS) : cC (d + 9) 9131 [eR (.ref a)] h = if cCl h a = 41 then some (.inl none, h) else none := (p_any d 9131 _ h rfl).trans rfl
theorem pq_ise (d : Nat) (a : Nat) (h : cS) : cC (d + 9) 9132 [eR (.ref a)] h = if cCl h a = 42 then some (.inl none, h) else none := (p_any d 9132 _ h rfl).trans rfl
theorem pq_obj (d : Nat) (a : Nat) (h : cS) : cC (d + 9) 9140 [eR (.ref a)] h = if cCl h a = 0 then none else some (.inl none, h) := (p_any d 9140 _ h rfl).trans rfl
theorem pP : (∀ (d : Nat) (a : Nat) (n : Int32) (h : cS), cC (d + 9) 9101 [eR (.ref a), eI n] h = clini h a n) ∧ (∀ (d : Nat) (a : Nat) (h : cS), cC (d + 9) 9102 [eR (.ref a)] h = clini0 h a) ∧ (∀ (d : Nat) (a : Nat) (h : cS), cC (d + 9) 9103 [eR (.ref a)] h = clsz h a) ∧ (∀ (d : Nat) (a : Nat) (k : Int32) (h : cS), cC (d + 9) 9104 [eR (.ref a), eI k] h = clget h a k) ∧ (∀ (d : Nat) (a : Nat) (v : Value) (h : cS), cC (d + 9) 9105 [eR (.ref a), eR v] h = cladd h a v) ∧ (∀ (d : Nat) (a : Nat) (k : Int32) (v : Value) (h : cS), cC (d + 9) 9106 [eR (.ref a), eI k, eR v] h = clset h a k v) ∧ (∀ (d : Nat) (a : Nat) (k : Int32) (h : cS), cC (d + 9) 9107 [eR (.ref a), eI k] h = clrem h a k) ∧ (∀ (d : Nat) (a : Nat) (h : cS), cC (d + 9) 9108 [eR (.ref a)] h = clclr h a) ∧ (∀ (d : Nat) (n : Int32) (h : cS), cC (d + 9) 9110 [eI n] h = cboxI h n) ∧ (∀ (d : Nat) (b : UInt32) (h : cS), cC (d + 9) 9111 [eR (.float b)] h = cret (eI b.toInt32) h) ∧ (∀ (d : Nat) (n : Int64) (h : cS), cC (d + 9) 9112 [eL n] h = cboxL h n) ∧ (∀ (d : Nat) (b : UInt64) (h : cS), cC (d + 9) 9113 [eR (.double b)] h = cret (eL b.toInt64) h) ∧ (∀ (d : Nat) (a : Nat) (n : Int32) (h : cS), cC (d + 9) 9120 [eR (.ref a), eI n] h = ccpyI h 1 a n) ∧ (∀ (d : Nat) (a : Nat) (n : Int32) (h : cS), cC (d + 9) 9121 [eR (.ref a), eI n] h = ccpyI h 2 a n) ∧ (∀ (d : Nat) (a : Nat) (n : Int32) (h : cS), cC (d + 9) 9122 [eR (.ref a), eI n] h = ccpyL h a n) ∧ (∀ (d : Nat) (s : Nat) (h : cS), cC (d + 9) 9000 [eR (.retAddr s)] h = cret (eI (Int32.ofNat (nthD [] cStrs s).length)) h) ∧ (∀ (d : Nat) (s : Nat) (k : Int32) (h : cS), cC (d + 9) 9001 [eR (.retAddr s), eI k] h = cchr h s k) ∧ (∀ (d : Nat) (s : Nat) (c : Int32) (h : cS), cC (d + 9) 9003 [eR (.retAddr s), eI c] h = cret (eI (tFind c.toNatClampNeg (nthD [] cStrs s) 0)) h) ∧ (∀ (d : Nat) (a : Nat) (h : cS), cC (d + 9) 9130 [eR (.ref a), eR .null, eR .null, eI 0, eI 0] h = if cCl h a = 11 then some (.inl none, h) else none) ∧ (∀ (d : Nat) (a : Nat) (h : cS), cC (d + 9) 9131 [eR (.ref a)] h = if cCl h a = 41 then some (.inl none, h) else none) ∧ (∀ (d : Nat) (a : Nat) (h : cS), cC (d + 9) 9132 [eR (.ref a)] h = if cCl h a = 42 then some (.inl none, h) else none) ∧ (∀ (d : Nat) (a : Nat) (h : cS), cC (d + 9) 9140 [eR (.ref a)] h = if cCl h a = 0 then none else some (.inl none, h)) := ⟨@pq_ini, @pq_ini0, @pq_sz, @pq_get, @pq_add, @pq_set, @pq_rem, @pq_clr, @pq_boxI, @pq_unI, @pq_boxL, @pq_unL, @pq_cpB, @pq_cpI, @pq_cpL, @pq_len, @pq_chr, @pq_idx, @pq_wro, @pq_iae, @pq_ise, @pq_obj⟩
theorem o_I (h : cS) (x : Nat) (a : Nat) (m n : Int32) : csI (csI h x a m) x a n = csI h x a n := by unfold csI; congr 1; funext y b; by_cases e : y = x ∧ b = a <;> simp [e]
theorem o_L (h : cS) (x : Nat) (a : Nat) (m n : Int64) : csL (csL h x a m) x a n = csL h x a n := by unfold csL; simp only; congr; funext y b; by_cases e : y = x ∧ b = a <;> simp [e]
theorem o_R (h : cS) (x : Nat) (a : Nat) (m n : Value) : csR (csR h x a m) x a n = csR h x a n := by unfold csR; simp only; congr; funext y b; by_cases e : y = x ∧ b = a <;> simp [e]
theorem o_AI (h : cS) (x : Nat) (a : Nat) (m n : Int32) : csAI (csAI h x a m) x a n = csAI h x a n := by unfold csAI; simp only; congr; funext y b; by_cases e : y = x ∧ b = a <;> simp [e]
theorem o_AL (h : cS) (x : Nat) (a : Nat) (m n : Int64) : csAL (csAL h x a m) x a n = csAL h x a n := by unfold csAL; simp only; congr; funext y b; by_cases e : y = x ∧ b = a <;> simp [e]
theorem o_AR (h : cS) (x : Nat) (a : Nat) (m n : Value) : csAR (csAR h x a m) x a n = csAR h x a n := by unfold csAR; simp only; congr; funext y b; by_cases e : y = x ∧ b = a <;> simp [e]
theorem o_Ls (h : cS) (a : Nat) (m n : List Value) : csLs (csLs h a m) a n = csLs h a n := by unfold csLs; simp only; congr; funext b; by_cases e : b = a <;> simp [e]
theorem o_Cap (h : cS) (a : Nat) (m n : Nat) : csCap (csCap h a m) a n = csCap h a n := by unfold csCap; simp only; congr; funext b; by_cases e : b = a <;> simp [e]
theorem o_Len (h : cS) (a : Nat) (m n : Nat) : csLen (csLen h a m) a n = csLen h a n := by unfold csLen; simp only; congr; funext b; by_cases e : b = a <;> simp [e]
theorem o_Cl (h : cS) (a : Nat) (m n : Nat) : csCl (csCl h a m) a n = csCl h a n := by unfold csCl; simp only; congr; funext b; by_cases e : b = a <;> simp [e]
theorem w_L_I (h : cS) (x : Nat) (a : Nat) (y : Nat) (b : Nat) (m : Int32) (n : Int64) : csL (csI h x a m) y b n = csI (csL h y b n) x a m := rfl
theorem w_R_I (h : cS) (x : Nat) (a : Nat) (y : Nat) (b : Nat) (m : Int32) (n : Value) : csR (csI h x a m) y b n = csI (csR h y b n) x a m := rfl
theorem w_AI_I (h : cS) (x : Nat) (a : Nat) (y : Nat) (b : Nat) (m : Int32) (n : Int32) : csAI (csI h x a m) y b n = csI (csAI h y b n) x a m := rfl
theorem w_AL_I (h : cS) (x : Nat) (a : Nat) (y : Nat) (b : Nat) (m : Int32) (n : Int64) : csAL (csI h x a m) y b n = csI (csAL h y b n) x a m := rfl
theorem w_AR_I (h : cS) (x : Nat) (a : Nat) (y : Nat) (b : Nat) (m : Int32) (n : Value) : csAR (csI h x a m) y b n = csI (csAR h y b n) x a m := rfl
theorem w_Ls_I (h : cS) (x : Nat) (a : Nat) (b : Nat) (m : Int32) (n : List Value) : csLs (csI h x a m) b n = csI (csLs h b n) x a m := rfl
theorem w_Cap_I (h : cS) (x : Nat) (a : Nat) (b : Nat) (m : Int32) (n : Nat) : csCap (csI h x a m) b n = csI (csCap h b n) x a m := rfl
theorem w_Len_I (h : cS) (x : Nat) (a : Nat) (b : Nat) (m : Int32) (n : Nat) : csLen (csI h x a m) b n = csI (csLen h b n) x a m := rfl
theorem w_Cl_I (h : cS) (x : Nat) (a : Nat) (b : Nat) (m : Int32) (n : Nat) : csCl (csI h x a m) b n = csI (csCl h b n) x a m := rfl
theorem w_R_L (h : cS) (x : Nat) (a : Nat) (y : Nat) (b : Nat) (m : Int64) (n : Value) : csR (csL h x a m) y b n = csL (csR h y b n) x a m := rfl
theorem w_AI_L (h : cS) (x : Nat) (a : Nat) (y : Nat) (b : Nat) (m : Int64) (n : Int32) : csAI (csL h x a m) y b n = csL (csAI h y b n) x a m := rfl
theorem w_AL_L (h : cS) (x : Nat) (a : Nat) (y : Nat) (b : Nat) (m : Int64) (n : Int64) : csAL (csL h x a m) y b n = csL (csAL h y b n) x a m := rfl
theorem w_AR_L (h : cS) (x : Nat) (a : Nat) (y : Nat) (b : Nat) (m : Int64) (n : Value) : csAR (csL h x a m) y b n = csL (csAR h y b n) x a m := rfl
theorem w_Ls_L (h : cS) (x : Nat) (a : Nat) (b : Nat) (m : Int64) (n : List Value) : csLs (csL h x a m) b n = csL (csLs h b n) x a m := rfl
theorem w_Cap_L (h : cS) (x : Nat) (a : Nat) (b : Nat) (m : Int64) (n : Nat) : csCap (csL h x a m) b n = csL (csCap h b n) x a m := rfl
theorem w_Len_L (h : cS) (x : Nat) (a : Nat) (b : Nat) (m : Int64) (n : Nat) : csLen (csL h x a m) b n = csL (csLen h b n) x a m := rfl
theorem w_Cl_L (h : cS) (x : Nat) (a : Nat) (b : Nat) (m : Int64) (n : Nat) : csCl (csL h x a m) b n = csL (csCl h b n) x a m := rfl
theorem w_AI_R (h : cS) (x : Nat) (a : Nat) (y : Nat) (b : Nat) (m : Value) (n : Int32) : csAI (csR h x a m) y b n = csR (csAI h y b n) x a m := rfl
theorem w_AL_R (h : cS) (x : Nat) (a : Nat) (y : Nat) (b : Nat) (m : Value) (n : Int64) : csAL (csR h x a m) y b n = csR (csAL h y b n) x a m := rfl
theorem w_AR_R (h : cS) (x : Nat) (a : Nat) (y : Nat) (b : Nat) (m : Value) (n : Value) : csAR (csR h x a m) y b n = csR (csAR h y b n) x a m := rfl
theorem w_Ls_R (h : cS) (x : Nat) (a : Nat) (b : Nat) (m : Value) (n : List Value) : csLs (csR h x a m) b n = csR (csLs h b n) x a m := rfl
theorem w_Cap_R (h : cS) (x : Nat) (a : Nat) (b : Nat) (m : Value) (n : Nat) : csCap (csR h x a m) b n = csR (csCap h b n) x a m := rfl
theorem w_Len_R (h : cS) (x : Nat) (a : Nat) (b : Nat) (m : Value) (n : Nat) : csLen (csR h x a m) b n = csR (csLen h b n) x a m := rfl
theorem w_Cl_R (h : cS) (x : Nat) (a : Nat) (b : Nat) (m : Value) (n : Nat) : csCl (csR h x a m) b n = csR (csCl h b n) x a m := rfl
theorem w_AL_AI (h : cS) (x : Nat) (a : Nat) (y : Nat) (b : Nat) (m : Int32) (n : Int64) : csAL (csAI h x a m) y b n = csAI (csAL h y b n) x a m := rfl
theorem w_AR_AI (h : cS) (x : Nat) (a : Nat) (y : Nat) (b : Nat) (m : Int32) (n : Value) : csAR (csAI h x a m) y b n = csAI (csAR h y b n) x a m := rfl
theorem w_Ls_AI (h : cS) (x : Nat) (a : Nat) (b : Nat) (m : Int32) (n : List Value) : csLs (csAI h x a m) b n = csAI (csLs h b n) x a m := rfl
theorem w_Cap_AI (h : cS) (x : Nat) (a : Nat) (b : Nat) (m : Int32) (n : Nat) : csCap (csAI h x a m) b n = csAI (csCap h b n) x a m := rfl
theorem w_Len_AI (h : cS) (x : Nat) (a : Nat) (b : Nat) (m : Int32) (n : Nat) : csLen (csAI h x a m) b n = csAI (csLen h b n) x a m := rfl
theorem w_Cl_AI (h : cS) (x : Nat) (a : Nat) (b : Nat) (m : Int32) (n : Nat) : csCl (csAI h x a m) b n = csAI (csCl h b n) x a m := rfl
theorem w_AR_AL (h : cS) (x : Nat) (a : Nat) (y : Nat) (b : Nat) (m : Int64) (n : Value) : csAR (csAL h x a m) y b n = csAL (csAR h y b n) x a m := rfl
theorem w_Ls_AL (h : cS) (x : Nat) (a : Nat) (b : Nat) (m : Int64) (n : List Value) : csLs (csAL h x a m) b n = csAL (csLs h b n) x a m := rfl
theorem w_Cap_AL (h : cS) (x : Nat) (a : Nat) (b : Nat) (m : Int64) (n : Nat) : csCap (csAL h x a m) b n = csAL (csCap h b n) x a m := rfl
theorem w_Len_AL (h : cS) (x : Nat) (a : Nat) (b : Nat) (m : Int64) (n : Nat) : csLen (csAL h x a m) b n = csAL (csLen h b n) x a m := rfl
theorem w_Cl_AL (h : cS) (x : Nat) (a : Nat) (b : Nat) (m : Int64) (n : Nat) : csCl (csAL h x a m) b n = csAL (csCl h b n) x a m := rfl
theorem w_Ls_AR (h : cS) (x : Nat) (a : Nat) (b : Nat) (m : Value) (n : List Value) : csLs (csAR h x a m) b n = csAR (csLs h b n) x a m := rfl
theorem w_Cap_AR (h : cS) (x : Nat) (a : Nat) (b : Nat) (m : Value) (n : Nat) : csCap (csAR h x a m) b n = csAR (csCap h b n) x a m := rfl
theorem w_Len_AR (h : cS) (x : Nat) (a : Nat) (b : Nat) (m : Value) (n : Nat) : csLen (csAR h x a m) b n = csAR (csLen h b n) x a m := rfl
theorem w_Cl_AR (h : cS) (x : Nat) (a : Nat) (b : Nat) (m : Value) (n : Nat) : csCl (csAR h x a m) b n = csAR (csCl h b n) x a m := rfl
theorem w_Cap_Ls (h : cS) (a : Nat) (b : Nat) (m : List Value) (n : Nat) : csCap (csLs h a m) b n = csLs (csCap h b n) a m := rfl
theorem w_Len_Ls (h : cS) (a : Nat) (b : Nat) (m : List Value) (n : Nat) : csLen (csLs h a m) b n = csLs (csLen h b n) a m := rfl
theorem w_Cl_Ls (h : cS) (a : Nat) (b : Nat) (m : List Value) (n : Nat) : csCl (csLs h a m) b n = csLs (csCl h b n) a m := rfl
theorem w_Len_Cap (h : cS) (a : Nat) (b : Nat) (m : Nat) (n : Nat) : csLen (csCap h a m) b n = csCap (csLen h b n) a m := rfl
theorem w_Cl_Cap (h : cS) (a : Nat) (b : Nat) (m : Nat) (n : Nat) : csCl (csCap h a m) b n = csCap (csCl h b n) a m := rfl
theorem w_Cl_Len (h : cS) (a : Nat) (b : Nat) (m : Nat) (n : Nat) : csCl (csLen h a m) b n = csLen (csCl h b n) a m := rfl
theorem nC : (∀ (h : cS) (x : Nat) (a : Nat) (m n : Int32), csI (csI h x a m) x a n = csI h x a n) ∧ (∀ (h : cS) (x : Nat) (a : Nat) (m n : Int64), csL (csL h x a m) x a n = csL h x a n) ∧ (∀ (h : cS) (x : Nat) (a : Nat) (m n : Value), csR (csR h x a m) x a n = csR h x a n) ∧ (∀ (h : cS) (x : Nat) (a : Nat) (m n : Int32), csAI (csAI h x a m) x a n = csAI h x a n) ∧ (∀ (h : cS) (x : Nat) (a : Nat) (m n : Int64), csAL (csAL h x a m) x a n = csAL h x a n) ∧ (∀ (h : cS) (x : Nat) (a : Nat) (m n : Value), csAR (csAR h x a m) x a n = csAR h x a n) ∧ (∀ (h : cS) (a : Nat) (m n : List Value), csLs (csLs h a m) a n = csLs h a n) ∧ (∀ (h : cS) (a : Nat) (m n : Nat), csCap (csCap h a m) a n = csCap h a n) ∧ (∀ (h : cS) (a : Nat) (m n : Nat), csLen (csLen h a m) a n = csLen h a n) ∧ (∀ (h : cS) (a : Nat) (m n : Nat), csCl (csCl h a m) a n = csCl h a n) ∧ (∀ (h : cS) (x : Nat) (a : Nat) (y : Nat) (b : Nat) (m : Int32) (n : Int64), csL (csI h x a m) y b n = csI (csL h y b n) x a m) ∧ (∀ (h : cS) (x : Nat) (a : Nat) (y : Nat) (b : Nat) (m : Int32) (n : Value), csR (csI h x a m) y b n = csI (csR h y b n) x a m) ∧ (∀ (h : cS) (x : Nat) (a : Nat) (y : Nat) (b : Nat) (m : Int32) (n : Int32), csAI (csI h x a m) y b n = csI (csAI h y b n) x a m) ∧ (∀ (h : cS) (x : Nat) (a : Nat) (y : Nat) (b : Nat) (m : Int32) (n : Int64), csAL (csI h x a m) y b n = csI (csAL h y b n) x a m) ∧ (∀ (h : cS) (x : Nat) (a : Nat) (y : Nat) (b : Nat) (m : Int32) (n : Value), csAR (csI h x a m) y b n = csI (csAR h y b n) x a m) ∧ (∀ (h : cS) (x : Nat) (a : Nat) (b : Nat) (m : Int32) (n : List Value), csLs (csI h x a m) b n = csI (csLs h b n) x a m) ∧ (∀ (h : cS) (x : Nat) (a : Nat) (b : Nat) (m : Int32) (n : Nat), csCap (csI h x a m) b n = csI (csCap h b n) x a m) ∧ (∀ (h : cS) (x : Nat) (a : Nat) (b : Nat) (m : Int32) (n : Nat), csLen (csI h x a m) b n = csI (csLen h b n) x a m) ∧ (∀ (h : cS) (x : Nat) (a : Nat) (b : Nat) (m : Int32) (n : Nat), csCl (csI h x a m) b n = csI (csCl h b n) x a m) ∧ (∀ (h : cS) (x : Nat) (a : Nat) (y : Nat) (b : Nat) (m : Int64) (n : Value), csR (csL h x a m) y b n = csL (csR h y b n) x a m) ∧ (∀ (h : cS) (x : Nat) (a : Nat) (y : Nat) (b : Nat) (m : Int64) (n : Int32), csAI (csL h x a m) y b n = csL (csAI h y b n) x a m) ∧ (∀ (h : cS) (x : Nat) (a : Nat) (y : Nat) (b : Nat) (m : Int64) (n : Int64), csAL (csL h x a m) y b n = csL (csAL h y b n) x a m) ∧ (∀ (h : cS) (x : Nat) (a : Nat) (y : Nat) (b : Nat) (m : Int64) (n : Value), csAR (csL h x a m) y b n = csL (csAR h y b n) x a m) ∧ (∀ (h : cS) (x : Nat) (a : Nat) (b : Nat) (m : Int64) (n : List Value), csLs (csL h x a m) b n = csL (csLs h b n) x a m) ∧ (∀ (h : cS) (x : Nat) (a : Nat) (b : Nat) (m : Int64) (n : Nat), csCap (csL h x a m) b n = csL (csCap h b n) x a m) ∧ (∀ (h : cS) (x : Nat) (a : Nat) (b : Nat) (m : Int64) (n : Nat), csLen (csL h x a m) b n = csL (csLen h b n) x a m) ∧ (∀ (h : cS) (x : Nat) (a : Nat) (b : Nat) (m : Int64) (n : Nat), csCl (csL h x a m) b n = csL (csCl h b n) x a m) ∧ (∀ (h : cS) (x : Nat) (a : Nat) (y : Nat) (b : Nat) (m : Value) (n : Int32), csAI (csR h x a m) y b n = csR (csAI h y b n) x a m) ∧ (∀ (h : cS) (x : Nat) (a : Nat) (y : Nat) (b : Nat) (m : Value) (n : Int64), csAL (csR h x a m) y b n = csR (csAL h y b n) x a m) ∧ (∀ (h : cS) (x : Nat) (a : Nat) (y : Nat) (b : Nat) (m : Value) (n : Value), csAR (csR h x a m) y b n = csR (csAR h y b n) x a m) ∧ (∀ (h : cS) (x : Nat) (a : Nat) (b : Nat) (m : Value) (n : List Value), csLs (csR h x a m) b n = csR (csLs h b n) x a m) ∧ (∀ (h : cS) (x : Nat) (a : Nat) (b : Nat) (m : Value) (n : Nat), csCap (csR h x a m) b n = csR (csCap h b n) x a m) ∧ (∀ (h : cS) (x : Nat) (a : Nat) (b : Nat) (m : Value) (n : Nat), csLen (csR h x a m) b n = csR (csLen h b n) x a m) ∧ (∀ (h : cS) (x : Nat) (a : Nat) (b : Nat) (m : Value) (n : Nat), csCl (csR h x a m) b n = csR (csCl h b n) x a m) ∧ (∀ (h : cS) (x : Nat) (a : Nat) (y : Nat) (b : Nat) (m : Int32) (n : Int64), csAL (csAI h x a m) y b n = csAI (csAL h y b n) x a m) ∧ (∀ (h : cS) (x : Nat) (a : Nat) (y : Nat) (b : Nat) (m : Int32) (n : Value), csAR (csAI h x a m) y b n = csAI (csAR h y b n) x a m) ∧ (∀ (h : cS) (x : Nat) (a : Nat) (b : Nat) (m : Int32) (n : List Value), csLs (csAI h x a m) b n = csAI (csLs h b n) x a m) ∧ (∀ (h : cS) (x : Nat) (a : Nat) (b : Nat) (m : Int32) (n : Nat), csCap (csAI h x a m) b n = csAI (csCap h b n) x a m) ∧ (∀ (h : cS) (x : Nat) (a : Nat) (b : Nat) (m : Int32) (n : Nat), csLen (csAI h x a m) b n = csAI (csLen h b n) x a m) ∧ (∀ (h : cS) (x : Nat) (a : Nat) (b : Nat) (m : Int32) (n : Nat), csCl (csAI h x a m) b n = csAI (csCl h b n) x a m) ∧ (∀ (h : cS) (x : Nat) (a : Nat) (y : Nat) (b : Nat) (m : Int64) (n : Value), csAR (csAL h x a m) y b n = csAL (csAR h y b n) x a m) ∧ (∀ (h : cS) (x : Nat) (a : Nat) (b : Nat) (m : Int64) (n : List Value), csLs (csAL h x a m) b n = csAL (csLs h b n) x a m) ∧ (∀ (h : cS) (x : Nat) (a : Nat) (b : Nat) (m : Int64) (n : Nat), csCap (csAL h x a m) b n = csAL (csCap h b n) x a m) ∧ (∀ (h : cS) (x : Nat) (a : Nat) (b : Nat) (m : Int64) (n : Nat), csLen (csAL h x a m) b n = csAL (csLen h b n) x a m) ∧ (∀ (h : cS) (x : Nat) (a : Nat) (b : Nat) (m : Int64) (n : Nat), csCl (csAL h x a m) b n = csAL (csCl h b n) x a m) ∧ (∀ (h : cS) (x : Nat) (a : Nat) (b : Nat) (m : Value) (n : List Value), csLs (csAR h x a m) b n = csAR (csLs h b n) x a m) ∧ (∀ (h : cS) (x : Nat) (a : Nat) (b : Nat) (m : Value) (n : Nat), csCap (csAR h x a m) b n = csAR (csCap h b n) x a m) ∧ (∀ (h : cS) (x : Nat) (a : Nat) (b : Nat) (m : Value) (n : Nat), csLen (csAR h x a m) b n = csAR (csLen h b n) x a m) ∧ (∀ (h : cS) (x : Nat) (a : Nat) (b : Nat) (m : Value) (n : Nat), csCl (csAR h x a m) b n = csAR (csCl h b n) x a m) ∧ (∀ (h : cS) (a : Nat) (b : Nat) (m : List Value) (n : Nat), csCap (csLs h a m) b n = csLs (csCap h b n) a m) ∧ (∀ (h : cS) (a : Nat) (b : Nat) (m : List Value) (n : Nat), csLen (csLs h a m) b n = csLs (csLen h b n) a m) ∧ (∀ (h : cS) (a : Nat) (b : Nat) (m : List Value) (n : Nat), csCl (csLs h a m) b n = csLs (csCl h b n) a m) ∧ (∀ (h : cS) (a : Nat) (b : Nat) (m : Nat) (n : Nat), csLen (csCap h a m) b n = csCap (csLen h b n) a m) ∧ (∀ (h : cS) (a : Nat) (b : Nat) (m : Nat) (n : Nat), csCl (csCap h a m) b n = csCap (csCl h b n) a m) ∧ (∀ (h : cS) (a : Nat) (b : Nat) (m : Nat) (n : Nat), csCl (csLen h a m) b n = csLen (csCl h b n) a m) := ⟨@o_I, @o_L, @o_R, @o_AI, @o_AL, @o_AR, @o_Ls, @o_Cap, @o_Len, @o_Cl, @w_L_I, @w_R_I, @w_AI_I, @w_AL_I, @w_AR_I, @w_Ls_I, @w_Cap_I, @w_Len_I, @w_Cl_I, @w_R_L, @w_AI_L, @w_AL_L, @w_AR_L, @w_Ls_L, @w_Cap_L, @w_Len_L, @w_Cl_L, @w_AI_R, @w_AL_R, @w_AR_R, @w_Ls_R, @w_Cap_R, @w_Len_R, @w_Cl_R, @w_AL_AI, @w_AR_AI, @w_Ls_AI, @w_Cap_AI, @w_Len_AI, @w_Cl_AI, @w_AR_AL, @w_Ls_AL, @w_Cap_AL, @w_Len_AL, @w_Cl_AL, @w_Ls_AR, @w_Cap_AR, @w_Len_AR, @w_Cl_AR, @w_Cap_Ls, @w_Len_Ls, @w_Cl_Ls, @w_Len_Cap, @w_Cl_Cap, @w_Cl_Len⟩
theorem s_I (h : cS) (x a y b : Nat) (m n : Int32) (hxy : y < x) : csI (csI h x a m) y b n = csI (csI h y b n) x a m := by unfold csI; congr 1; funext z c; by_cases e1 : z = x ∧ c = a <;> by_cases e2 : z = y ∧ c = b <;> simp [e1, e2] <;> omega
theorem s_L (h : cS) (x a y b : Nat) (m n : Int64) (hxy : y < x) : csL (csL h x a m) y b n = csL (csL h y b n) x a m := by unfold csL; simp only; congr; funext z c; by_cases e1 : z = x ∧ c = a <;> by_cases e2 : z = y ∧ c = b <;> simp [e1, e2] <;> omega
theorem s_R (h : cS) (x a y b : Nat) (m n : Value) (hxy : y < x) : csR (csR h x a m) y b n = csR (csR h y b n) x a m := by unfold csR; simp only; congr; funext z c; by_cases e1 : z = x ∧ c = a <;> by_cases e2 : z = y ∧ c = b <;> simp [e1, e2] <;> omega
theorem s_AI (h : cS) (x a y b : Nat) (m n : Int32) (hxy : y < x) : csAI (csAI h x a m) y b n = csAI (csAI h y b n) x a m := by unfold csAI; simp only; congr; funext z c; by_cases e1 : z = x ∧ c = a <;> by_cases e2 : z = y ∧ c = b <;> simp [e1, e2] <;> omega
theorem s_AL (h : cS) (x a y b : Nat) (m n : Int64) (hxy : y < x) : csAL (csAL h x a m) y b n = csAL (csAL h y b n) x a m := by unfold csAL; simp only; congr; funext z c; by_cases e1 : z = x ∧ c = a <;> by_cases e2 : z = y ∧ c = b <;> simp [e1, e2] <;> omega
theorem s_AR (h : cS) (x a y b : Nat) (m n : Value) (hxy : y < x) : csAR (csAR h x a m) y b n = csAR (csAR h y b n) x a m := by unfold csAR; simp only; congr; funext z c; by_cases e1 : z = x ∧ c = a <;> by_cases e2 : z = y ∧ c = b <;> simp [e1, e2] <;> omega
theorem to_I (h : tS) (x : Nat) (m n : Int32) : tsI (tsI h x m) x n = tsI h x n := by unfold tsI; simp only; congr; funext y; by_cases e : y = x <;> simp [e]
theorem to_L (h : tS) (x : Nat) (m n : Int64) : tsL (tsL h x m) x n = tsL h x n := by unfold tsL; simp only; congr; funext y; by_cases e : y = x <;> simp [e]
theorem to_A (h : tS) (x : Nat) (j : Nat) (m n : Int32) : tsA (tsA h x j m) x j n = tsA h x j n := by unfold tsA; simp only; congr; funext y i; by_cases e : y = x ∧ i = j <;> simp [e]
theorem to_B (h : tS) (x : Nat) (j : Nat) (m n : Int64) : tsB (tsB h x j m) x j n = tsB h x j n := by unfold tsB; simp only; congr; funext y i; by_cases e : y = x ∧ i = j <;> simp [e]
theorem tw_L_I (h : tS) (x : Nat) (y : Nat) (m : Int32) (n : Int64) : tsL (tsI h x m) y n = tsI (tsL h y n) x m := rfl
theorem tw_A_I (h : tS) (x : Nat) (y : Nat) (l : Nat) (m : Int32) (n : Int32) : tsA (tsI h x m) y l n = tsI (tsA h y l n) x m := rfl
theorem tw_B_I (h : tS) (x : Nat) (y : Nat) (l : Nat) (m : Int32) (n : Int64) : tsB (tsI h x m) y l n = tsI (tsB h y l n) x m := rfl
theorem tw_A_L (h : tS) (x : Nat) (y : Nat) (l : Nat) (m : Int64) (n : Int32) : tsA (tsL h x m) y l n = tsL (tsA h y l n) x m := rfl
theorem tw_B_L (h : tS) (x : Nat) (y : Nat) (l : Nat) (m : Int64) (n : Int64) : tsB (tsL h x m) y l n = tsL (tsB h y l n) x m := rfl
theorem tw_B_A (h : tS) (x : Nat) (j : Nat) (y : Nat) (l : Nat) (m : Int32) (n : Int64) : tsB (tsA h x j m) y l n = tsA (tsB h y l n) x j m := rfl
theorem nT : (∀ (h : tS) (x : Nat) (m n : Int32), tsI (tsI h x m) x n = tsI h x n) ∧ (∀ (h : tS) (x : Nat) (m n : Int64), tsL (tsL h x m) x n = tsL h x n) ∧ (∀ (h : tS) (x : Nat) (j : Nat) (m n : Int32), tsA (tsA h x j m) x j n = tsA h x j n) ∧ (∀ (h : tS) (x : Nat) (j : Nat) (m n : Int64), tsB (tsB h x j m) x j n = tsB h x j n) ∧ (∀ (h : tS) (x : Nat) (y : Nat) (m : Int32) (n : Int64), tsL (tsI h x m) y n = tsI (tsL h y n) x m) ∧ (∀ (h : tS) (x : Nat) (y : Nat) (l : Nat) (m : Int32) (n : Int32), tsA (tsI h x m) y l n = tsI (tsA h y l n) x m) ∧ (∀ (h : tS) (x : Nat) (y : Nat) (l : Nat) (m : Int32) (n : Int64), tsB (tsI h x m) y l n = tsI (tsB h y l n) x m) ∧ (∀ (h : tS) (x : Nat) (y : Nat) (l : Nat) (m : Int64) (n : Int32), tsA (tsL h x m) y l n = tsL (tsA h y l n) x m) ∧ (∀ (h : tS) (x : Nat) (y : Nat) (l : Nat) (m : Int64) (n : Int64), tsB (tsL h x m) y l n = tsL (tsB h y l n) x m) ∧ (∀ (h : tS) (x : Nat) (j : Nat) (y : Nat) (l : Nat) (m : Int32) (n : Int64), tsB (tsA h x j m) y l n = tsA (tsB h y l n) x j m) := ⟨@to_I, @to_L, @to_A, @to_B, @tw_L_I, @tw_A_I, @tw_B_I, @tw_A_L, @tw_B_L, @tw_B_A⟩
theorem ts_I (h : tS) (x y : Nat) (m n : Int32) (hxy : y < x) : tsI (tsI h x m) y n = tsI (tsI h y n) x m := by unfold tsI; simp only; congr; funext z; by_cases e1 : z = x <;> by_cases e2 : z = y <;> simp [e1, e2] <;> omega
theorem ts_L (h : tS) (x y : Nat) (m n : Int64) (hxy : y < x) : tsL (tsL h x m) y n = tsL (tsL h y n) x m := by unfold tsL; simp only; congr; funext z; by_cases e1 : z = x <;> by_cases e2 : z = y <;> simp [e1, e2] <;> omega
theorem ts_A (h : tS) (x i y j : Nat) (m n : Int32) (hxy : y < x) : tsA (tsA h x i m) y j n = tsA (tsA h y j n) x i m := by unfold tsA; simp only; congr; funext z c; by_cases e1 : z = x ∧ c = i <;> by_cases e2 : z = y ∧ c = j <;> simp [e1, e2] <;> omega
theorem ts_B (h : tS) (x i y j : Nat) (m n : Int64) (hxy : y < x) : tsB (tsB h x i m) y j n = tsB (tsB h y j n) x i m := by unfold tsB; simp only; congr; funext z c; by_cases e1 : z = x ∧ c = i <;> by_cases e2 : z = y ∧ c = j <;> simp [e1, e2] <;> omega
/-! numbers -/
theorem z_nat {n : Nat} (h : n < 2147483648) : (Int32.ofNat n).toNatClampNeg = n := Int32.toNatClampNeg_ofNat_of_lt h
theorem z_int {n : Nat} (h : n < 2147483648) : (Int32.ofNat n).toInt = n := Int32.toInt_ofNat_of_lt h
theorem z_lt {a b : Nat} (ha : a < 2147483648) (hb : b < 2147483648) : (Int32.ofNat a < Int32.ofNat b) = (a < b) := by
  rw [eq_iff_iff, Int32.lt_iff_toInt_lt, z_int ha, z_int hb]
  omega
theorem z_le {a b : Nat} (ha : a < 2147483648) (hb : b < 2147483648) : (Int32.ofNat a ≤ Int32.ofNat b) = (a ≤ b) := by
  rw [eq_iff_iff, Int32.le_iff_toInt_le, z_int ha, z_int hb]
  omega
theorem z_eq {a b : Nat} (ha : a < 2147483648) (hb : b < 2147483648) : (Int32.ofNat a = Int32.ofNat b) = (a = b) := by
  rw [eq_iff_iff]
  constructor
  · intro h
    have h2 := congrArg Int32.toNatClampNeg h
    rwa [z_nat ha, z_nat hb] at h2
  · intro h; rw [h]
theorem z_add (a b : Nat) : Int32.ofNat a + Int32.ofNat b = Int32.ofNat (a + b) := (Int32.ofNat_add a b).symm
theorem z_mul (a b : Nat) : Int32.ofNat a * Int32.ofNat b = Int32.ofNat (a * b) := (Int32.ofNat_mul a b).symm
theorem z_sub {a b : Nat} (h : b ≤ a) : Int32.ofNat a - Int32.ofNat b = Int32.ofNat (a - b) := by
  have e : Int32.ofNat a = Int32.ofNat (a - b) + Int32.ofNat b := by rw [z_add]; congr 1; omega
  rw [e, Int32.add_sub_cancel]
/-- minus one -/
def mone : Int32 := -1
theorem z_m1 : (-1 : Int32) = mone := rfl
theorem z_nm {a : Nat} (ha : a < 2147483648) : (Int32.ofNat a = mone) = False := by
  rw [eq_iff_iff, iff_false]
  intro h
  have h2 := congrArg Int32.toInt h
  rw [z_int ha] at h2
  have h3 : mone.toInt = -1 := rfl
  omega
theorem z_mn {a : Nat} (ha : a < 2147483648) : (mone = Int32.ofNat a) = False := by
  rw [eq_iff_iff, iff_false]
  intro h
  have q : Int32.ofNat a = mone := h.symm
  rw [z_nm ha] at q
  exact q
theorem z_ml {a : Nat} (ha : a < 2147483648) : (mone < Int32.ofNat a) = True := by
  rw [eq_iff_iff, iff_true, Int32.lt_iff_toInt_lt, z_int ha]
  have h3 : mone.toInt = -1 := rfl
  omega
theorem z_lm {a : Nat} (ha : a < 2147483648) : (Int32.ofNat a < mone) = False := by
  rw [eq_iff_iff, iff_false, Int32.lt_iff_toInt_lt, z_int ha]
  have h3 : mone.toInt = -1 := rfl
  omega

theorem z0 : (0 : Int32) = Int32.ofNat 0 := rfl
theorem z1 : (1 : Int32) = Int32.ofNat 1 := rfl
theorem z2 : (2 : Int32) = Int32.ofNat 2 := rfl
theorem z3 : (3 : Int32) = Int32.ofNat 3 := rfl
theorem z4 : (4 : Int32) = Int32.ofNat 4 := rfl
theorem z5 : (5 : Int32) = Int32.ofNat 5 := rfl
theorem z6 : (6 : Int32) = Int32.ofNat 6 := rfl
theorem z7 : (7 : Int32) = Int32.ofNat 7 := rfl
theorem z8 : (8 : Int32) = Int32.ofNat 8 := rfl
theorem z9 : (9 : Int32) = Int32.ofNat 9 := rfl
theorem z10 : (10 : Int32) = Int32.ofNat 10 := rfl
theorem z11 : (11 : Int32) = Int32.ofNat 11 := rfl
theorem z12 : (12 : Int32) = Int32.ofNat 12 := rfl
theorem z13 : (13 : Int32) = Int32.ofNat 13 := rfl
theorem z14 : (14 : Int32) = Int32.ofNat 14 := rfl
theorem z15 : (15 : Int32) = Int32.ofNat 15 := rfl
theorem z16 : (16 : Int32) = Int32.ofNat 16 := rfl
theorem z17 : (17 : Int32) = Int32.ofNat 17 := rfl
theorem z18 : (18 : Int32) = Int32.ofNat 18 := rfl
theorem z19 : (19 : Int32) = Int32.ofNat 19 := rfl
theorem z20 : (20 : Int32) = Int32.ofNat 20 := rfl
theorem z21 : (21 : Int32) = Int32.ofNat 21 := rfl
theorem z22 : (22 : Int32) = Int32.ofNat 22 := rfl
theorem z23 : (23 : Int32) = Int32.ofNat 23 := rfl
theorem z24 : (24 : Int32) = Int32.ofNat 24 := rfl
theorem z25 : (25 : Int32) = Int32.ofNat 25 := rfl
theorem z26 : (26 : Int32) = Int32.ofNat 26 := rfl
theorem z27 : (27 : Int32) = Int32.ofNat 27 := rfl
theorem z28 : (28 : Int32) = Int32.ofNat 28 := rfl
theorem z29 : (29 : Int32) = Int32.ofNat 29 := rfl
theorem z30 : (30 : Int32) = Int32.ofNat 30 := rfl
theorem z31 : (31 : Int32) = Int32.ofNat 31 := rfl
theorem z32 : (32 : Int32) = Int32.ofNat 32 := rfl
theorem z33 : (33 : Int32) = Int32.ofNat 33 := rfl
theorem z34 : (34 : Int32) = Int32.ofNat 34 := rfl
theorem z35 : (35 : Int32) = Int32.ofNat 35 := rfl
theorem z36 : (36 : Int32) = Int32.ofNat 36 := rfl
theorem z37 : (37 : Int32) = Int32.ofNat 37 := rfl
theorem z38 : (38 : Int32) = Int32.ofNat 38 := rfl
theorem z39 : (39 : Int32) = Int32.ofNat 39 := rfl
theorem z40 : (40 : Int32) = Int32.ofNat 40 := rfl
theorem z41 : (41 : Int32) = Int32.ofNat 41 := rfl
theorem z42 : (42 : Int32) = Int32.ofNat 42 := rfl
theorem z43 : (43 : Int32) = Int32.ofNat 43 := rfl
theorem z44 : (44 : Int32) = Int32.ofNat 44 := rfl
theorem z45 : (45 : Int32) = Int32.ofNat 45 := rfl
theorem z46 : (46 : Int32) = Int32.ofNat 46 := rfl
theorem z47 : (47 : Int32) = Int32.ofNat 47 := rfl
theorem z48 : (48 : Int32) = Int32.ofNat 48 := rfl
theorem z49 : (49 : Int32) = Int32.ofNat 49 := rfl
theorem z50 : (50 : Int32) = Int32.ofNat 50 := rfl
theorem z51 : (51 : Int32) = Int32.ofNat 51 := rfl
theorem z52 : (52 : Int32) = Int32.ofNat 52 := rfl
theorem z53 : (53 : Int32) = Int32.ofNat 53 := rfl
theorem z54 : (54 : Int32) = Int32.ofNat 54 := rfl
theorem z55 : (55 : Int32) = Int32.ofNat 55 := rfl
theorem z56 : (56 : Int32) = Int32.ofNat 56 := rfl
theorem z57 : (57 : Int32) = Int32.ofNat 57 := rfl
theorem z58 : (58 : Int32) = Int32.ofNat 58 := rfl
theorem z59 : (59 : Int32) = Int32.ofNat 59 := rfl
theorem z60 : (60 : Int32) = Int32.ofNat 60 := rfl
theorem z61 : (61 : Int32) = Int32.ofNat 61 := rfl
theorem z62 : (62 : Int32) = Int32.ofNat 62 := rfl
theorem z63 : (63 : Int32) = Int32.ofNat 63 := rfl
theorem z64 : (64 : Int32) = Int32.ofNat 64 := rfl
theorem z65 : (65 : Int32) = Int32.ofNat 65 := rfl
theorem z66 : (66 : Int32) = Int32.ofNat 66 := rfl
theorem z67 : (67 : Int32) = Int32.ofNat 67 := rfl
theorem z68 : (68 : Int32) = Int32.ofNat 68 := rfl
theorem z69 : (69 : Int32) = Int32.ofNat 69 := rfl
theorem z70 : (70 : Int32) = Int32.ofNat 70 := rfl
theorem z71 : (71 : Int32) = Int32.ofNat 71 := rfl
theorem z72 : (72 : Int32) = Int32.ofNat 72 := rfl
theorem z73 : (73 : Int32) = Int32.ofNat 73 := rfl
theorem z74 : (74 : Int32) = Int32.ofNat 74 := rfl
theorem z75 : (75 : Int32) = Int32.ofNat 75 := rfl
theorem z76 : (76 : Int32) = Int32.ofNat 76 := rfl
theorem z77 : (77 : Int32) = Int32.ofNat 77 := rfl
theorem z78 : (78 : Int32) = Int32.ofNat 78 := rfl
theorem z79 : (79 : Int32) = Int32.ofNat 79 := rfl
theorem z80 : (80 : Int32) = Int32.ofNat 80 := rfl
theorem z81 : (81 : Int32) = Int32.ofNat 81 := rfl
theorem z82 : (82 : Int32) = Int32.ofNat 82 := rfl
theorem z83 : (83 : Int32) = Int32.ofNat 83 := rfl
theorem z84 : (84 : Int32) = Int32.ofNat 84 := rfl
theorem z85 : (85 : Int32) = Int32.ofNat 85 := rfl
theorem z86 : (86 : Int32) = Int32.ofNat 86 := rfl
theorem z87 : (87 : Int32) = Int32.ofNat 87 := rfl
theorem z88 : (88 : Int32) = Int32.ofNat 88 := rfl
theorem z89 : (89 : Int32) = Int32.ofNat 89 := rfl
theorem z90 : (90 : Int32) = Int32.ofNat 90 := rfl
theorem z91 : (91 : Int32) = Int32.ofNat 91 := rfl
theorem z92 : (92 : Int32) = Int32.ofNat 92 := rfl
theorem z93 : (93 : Int32) = Int32.ofNat 93 := rfl
theorem z94 : (94 : Int32) = Int32.ofNat 94 := rfl
theorem z95 : (95 : Int32) = Int32.ofNat 95 := rfl
theorem z96 : (96 : Int32) = Int32.ofNat 96 := rfl
theorem z97 : (97 : Int32) = Int32.ofNat 97 := rfl
theorem z98 : (98 : Int32) = Int32.ofNat 98 := rfl
theorem z99 : (99 : Int32) = Int32.ofNat 99 := rfl
theorem z100 : (100 : Int32) = Int32.ofNat 100 := rfl
theorem z101 : (101 : Int32) = Int32.ofNat 101 := rfl
theorem z102 : (102 : Int32) = Int32.ofNat 102 := rfl
theorem z103 : (103 : Int32) = Int32.ofNat 103 := rfl
theorem z104 : (104 : Int32) = Int32.ofNat 104 := rfl
theorem z105 : (105 : Int32) = Int32.ofNat 105 := rfl
theorem z106 : (106 : Int32) = Int32.ofNat 106 := rfl
theorem z107 : (107 : Int32) = Int32.ofNat 107 := rfl
theorem z108 : (108 : Int32) = Int32.ofNat 108 := rfl
theorem z109 : (109 : Int32) = Int32.ofNat 109 := rfl
theorem z110 : (110 : Int32) = Int32.ofNat 110 := rfl
theorem z111 : (111 : Int32) = Int32.ofNat 111 := rfl
theorem z112 : (112 : Int32) = Int32.ofNat 112 := rfl
theorem z113 : (113 : Int32) = Int32.ofNat 113 := rfl
theorem z114 : (114 : Int32) = Int32.ofNat 114 := rfl
theorem z115 : (115 : Int32) = Int32.ofNat 115 := rfl
theorem z116 : (116 : Int32) = Int32.ofNat 116 := rfl
theorem z117 : (117 : Int32) = Int32.ofNat 117 := rfl
theorem z118 : (118 : Int32) = Int32.ofNat 118 := rfl
theorem z119 : (119 : Int32) = Int32.ofNat 119 := rfl
theorem z120 : (120 : Int32) = Int32.ofNat 120 := rfl
theorem z121 : (121 : Int32) = Int32.ofNat 121 := rfl
theorem z122 : (122 : Int32) = Int32.ofNat 122 := rfl
theorem z123 : (123 : Int32) = Int32.ofNat 123 := rfl
theorem z124 : (124 : Int32) = Int32.ofNat 124 := rfl
theorem z125 : (125 : Int32) = Int32.ofNat 125 := rfl
theorem z126 : (126 : Int32) = Int32.ofNat 126 := rfl
theorem z127 : (127 : Int32) = Int32.ofNat 127 := rfl
theorem z128 : (128 : Int32) = Int32.ofNat 128 := rfl
theorem z129 : (129 : Int32) = Int32.ofNat 129 := rfl
theorem z130 : (130 : Int32) = Int32.ofNat 130 := rfl
theorem z200 : (200 : Int32) = Int32.ofNat 200 := rfl
theorem z210 : (210 : Int32) = Int32.ofNat 210 := rfl
theorem z240 : (240 : Int32) = Int32.ofNat 240 := rfl
theorem z255 : (255 : Int32) = Int32.ofNat 255 := rfl
theorem z256 : (256 : Int32) = Int32.ofNat 256 := rfl
theorem z257 : (257 : Int32) = Int32.ofNat 257 := rfl
theorem z264 : (264 : Int32) = Int32.ofNat 264 := rfl
theorem z265 : (265 : Int32) = Int32.ofNat 265 := rfl
theorem z266 : (266 : Int32) = Int32.ofNat 266 := rfl
theorem z400 : (400 : Int32) = Int32.ofNat 400 := rfl
theorem z500 : (500 : Int32) = Int32.ofNat 500 := rfl
theorem z900 : (900 : Int32) = Int32.ofNat 900 := rfl
theorem z999 : (999 : Int32) = Int32.ofNat 999 := rfl
theorem z1000 : (1000 : Int32) = Int32.ofNat 1000 := rfl
theorem z1500 : (1500 : Int32) = Int32.ofNat 1500 := rfl
theorem z2000 : (2000 : Int32) = Int32.ofNat 2000 := rfl
theorem z3000 : (3000 : Int32) = Int32.ofNat 3000 := rfl
theorem z4000 : (4000 : Int32) = Int32.ofNat 4000 := rfl
theorem z4001 : (4001 : Int32) = Int32.ofNat 4001 := rfl
theorem z4002 : (4002 : Int32) = Int32.ofNat 4002 := rfl
theorem z8191 : (8191 : Int32) = Int32.ofNat 8191 := rfl
theorem z8192 : (8192 : Int32) = Int32.ofNat 8192 := rfl
theorem z9000 : (9000 : Int32) = Int32.ofNat 9000 := rfl
theorem z12600 : (12600 : Int32) = Int32.ofNat 12600 := rfl
theorem z14909 : (14909 : Int32) = Int32.ofNat 14909 := rfl
theorem z15677 : (15677 : Int32) = Int32.ofNat 15677 := rfl
theorem zL : ((0 : Int32) = Int32.ofNat 0) ∧ ((1 : Int32) = Int32.ofNat 1) ∧ ((2 : Int32) = Int32.ofNat 2) ∧ ((3 : Int32) = Int32.ofNat 3) ∧ ((4 : Int32) = Int32.ofNat 4) ∧ ((5 : Int32) = Int32.ofNat 5) ∧ ((6 : Int32) = Int32.ofNat 6) ∧ ((7 : Int32) = Int32.ofNat 7) ∧ ((8 : Int32) = Int32.ofNat 8) ∧ ((9 : Int32) = Int32.ofNat 9) ∧ ((10 : Int32) = Int32.ofNat 10) ∧ ((11 : Int32) = Int32.ofNat 11) ∧ ((12 : Int32) = Int32.ofNat 12) ∧ ((13 : Int32) = Int32.ofNat 13) ∧ ((14 : Int32) = Int32.ofNat 14) ∧ ((15 : Int32) = Int32.ofNat 15) ∧ ((16 : Int32) = Int32.ofNat 16) ∧ ((17 : Int32) = Int32.ofNat 17) ∧ ((18 : Int32) = Int32.ofNat 18) ∧ ((19 : Int32) = Int32.ofNat 19) ∧ ((20 : Int32) = Int32.ofNat 20) ∧ ((21 : Int32) = Int32.ofNat 21) ∧ ((22 : Int32) = Int32.ofNat 22) ∧ ((23 : Int32) = Int32.ofNat 23) ∧ ((24 : Int32) = Int32.ofNat 24) ∧ ((25 : Int32) = Int32.ofNat 25) ∧ ((26 : Int32) = Int32.ofNat 26) ∧ ((27 : Int32) = Int32.ofNat 27) ∧ ((28 : Int32) = Int32.ofNat 28) ∧ ((29 : Int32) = Int32.ofNat 29) ∧ ((30 : Int32) = Int32.ofNat 30) ∧ ((31 : Int32) = Int32.ofNat 31) ∧ ((32 : Int32) = Int32.ofNat 32) ∧ ((33 : Int32) = Int32.ofNat 33) ∧ ((34 : Int32) = Int32.ofNat 34) ∧ ((35 : Int32) = Int32.ofNat 35) ∧ ((36 : Int32) = Int32.ofNat 36) ∧ ((37 : Int32) = Int32.ofNat 37) ∧ ((38 : Int32) = Int32.ofNat 38) ∧ ((39 : Int32) = Int32.ofNat 39) ∧ ((40 : Int32) = Int32.ofNat 40) ∧ ((41 : Int32) = Int32.ofNat 41) ∧ ((42 : Int32) = Int32.ofNat 42) ∧ ((43 : Int32) = Int32.ofNat 43) ∧ ((44 : Int32) = Int32.ofNat 44) ∧ ((45 : Int32) = Int32.ofNat 45) ∧ ((46 : Int32) = Int32.ofNat 46) ∧ ((47 : Int32) = Int32.ofNat 47) ∧ ((48 : Int32) = Int32.ofNat 48) ∧ ((49 : Int32) = Int32.ofNat 49) ∧ ((50 : Int32) = Int32.ofNat 50) ∧ ((51 : Int32) = Int32.ofNat 51) ∧ ((52 : Int32) = Int32.ofNat 52) ∧ ((53 : Int32) = Int32.ofNat 53) ∧ ((54 : Int32) = Int32.ofNat 54) ∧ ((55 : Int32) = Int32.ofNat 55) ∧ ((56 : Int32) = Int32.ofNat 56) ∧ ((57 : Int32) = Int32.ofNat 57) ∧ ((58 : Int32) = Int32.ofNat 58) ∧ ((59 : Int32) = Int32.ofNat 59) ∧ ((60 : Int32) = Int32.ofNat 60) ∧ ((61 : Int32) = Int32.ofNat 61) ∧ ((62 : Int32) = Int32.ofNat 62) ∧ ((63 : Int32) = Int32.ofNat 63) ∧ ((64 : Int32) = Int32.ofNat 64) ∧ ((65 : Int32) = Int32.ofNat 65) ∧ ((66 : Int32) = Int32.ofNat 66) ∧ ((67 : Int32) = Int32.ofNat 67) ∧ ((68 : Int32) = Int32.ofNat 68) ∧ ((69 : Int32) = Int32.ofNat 69) ∧ ((70 : Int32) = Int32.ofNat 70) ∧ ((71 : Int32) = Int32.ofNat 71) ∧ ((72 : Int32) = Int32.ofNat 72) ∧ ((73 : Int32) = Int32.ofNat 73) ∧ ((74 : Int32) = Int32.ofNat 74) ∧ ((75 : Int32) = Int32.ofNat 75) ∧ ((76 : Int32) = Int32.ofNat 76) ∧ ((77 : Int32) = Int32.ofNat 77) ∧ ((78 : Int32) = Int32.ofNat 78) ∧ ((79 : Int32) = Int32.ofNat 79) ∧ ((80 : Int32) = Int32.ofNat 80) ∧ ((81 : Int32) = Int32.ofNat 81) ∧ ((82 : Int32) = Int32.ofNat 82) ∧ ((83 : Int32) = Int32.ofNat 83) ∧ ((84 : Int32) = Int32.ofNat 84) ∧ ((85 : Int32) = Int32.ofNat 85) ∧ ((86 : Int32) = Int32.ofNat 86) ∧ ((87 : Int32) = Int32.ofNat 87) ∧ ((88 : Int32) = Int32.ofNat 88) ∧ ((89 : Int32) = Int32.ofNat 89) ∧ ((90 : Int32) = Int32.ofNat 90) ∧ ((91 : Int32) = Int32.ofNat 91) ∧ ((92 : Int32) = Int32.ofNat 92) ∧ ((93 : Int32) = Int32.ofNat 93) ∧ ((94 : Int32) = Int32.ofNat 94) ∧ ((95 : Int32) = Int32.ofNat 95) ∧ ((96 : Int32) = Int32.ofNat 96) ∧ ((97 : Int32) = Int32.ofNat 97) ∧ ((98 : Int32) = Int32.ofNat 98) ∧ ((99 : Int32) = Int32.ofNat 99) ∧ ((100 : Int32) = Int32.ofNat 100) ∧ ((101 : Int32) = Int32.ofNat 101) ∧ ((102 : Int32) = Int32.ofNat 102) ∧ ((103 : Int32) = Int32.ofNat 103) ∧ ((104 : Int32) = Int32.ofNat 104) ∧ ((105 : Int32) = Int32.ofNat 105) ∧ ((106 : Int32) = Int32.ofNat 106) ∧ ((107 : Int32) = Int32.ofNat 107) ∧ ((108 : Int32) = Int32.ofNat 108) ∧ ((109 : Int32) = Int32.ofNat 109) ∧ ((110 : Int32) = Int32.ofNat 110) ∧ ((111 : Int32) = Int32.ofNat 111) ∧ ((112 : Int32) = Int32.ofNat 112) ∧ ((113 : Int32) = Int32.ofNat 113) ∧ ((114 : Int32) = Int32.ofNat 114) ∧ ((115 : Int32) = Int32.ofNat 115) ∧ ((116 : Int32) = Int32.ofNat 116) ∧ ((117 : Int32) = Int32.ofNat 117) ∧ ((118 : Int32) = Int32.ofNat 118) ∧ ((119 : Int32) = Int32.ofNat 119) ∧ ((120 : Int32) = Int32.ofNat 120) ∧ ((121 : Int32) = Int32.ofNat 121) ∧ ((122 : Int32) = Int32.ofNat 122) ∧ ((123 : Int32) = Int32.ofNat 123) ∧ ((124 : Int32) = Int32.ofNat 124) ∧ ((125 : Int32) = Int32.ofNat 125) ∧ ((126 : Int32) = Int32.ofNat 126) ∧ ((127 : Int32) = Int32.ofNat 127) ∧ ((128 : Int32) = Int32.ofNat 128) ∧ ((129 : Int32) = Int32.ofNat 129) ∧ ((130 : Int32) = Int32.ofNat 130) ∧ ((200 : Int32) = Int32.ofNat 200) ∧ ((210 : Int32) = Int32.ofNat 210) ∧ ((240 : Int32) = Int32.ofNat 240) ∧ ((255 : Int32) = Int32.ofNat 255) ∧ ((256 : Int32) = Int32.ofNat 256) ∧ ((257 : Int32) = Int32.ofNat 257) ∧ ((264 : Int32) = Int32.ofNat 264) ∧ ((265 : Int32) = Int32.ofNat 265) ∧ ((266 : Int32) = Int32.ofNat 266) ∧ ((400 : Int32) = Int32.ofNat 400) ∧ ((500 : Int32) = Int32.ofNat 500) ∧ ((900 : Int32) = Int32.ofNat 900) ∧ ((999 : Int32) = Int32.ofNat 999) ∧ ((1000 : Int32) = Int32.ofNat 1000) ∧ ((1500 : Int32) = Int32.ofNat 1500) ∧ ((2000 : Int32) = Int32.ofNat 2000) ∧ ((3000 : Int32) = Int32.ofNat 3000) ∧ ((4000 : Int32) = Int32.ofNat 4000) ∧ ((4001 : Int32) = Int32.ofNat 4001) ∧ ((4002 : Int32) = Int32.ofNat 4002) ∧ ((8191 : Int32) = Int32.ofNat 8191) ∧ ((8192 : Int32) = Int32.ofNat 8192) ∧ ((9000 : Int32) = Int32.ofNat 9000) ∧ ((12600 : Int32) = Int32.ofNat 12600) ∧ ((14909 : Int32) = Int32.ofNat 14909) ∧ ((15677 : Int32) = Int32.ofNat 15677) := ⟨z0, z1, z2, z3, z4, z5, z6, z7, z8, z9, z10, z11, z12, z13, z14, z15, z16, z17, z18, z19, z20, z21, z22, z23, z24, z25, z26, z27, z28, z29, z30, z31, z32, z33, z34, z35, z36, z37, z38, z39, z40, z41, z42, z43, z44, z45, z46, z47, z48, z49, z50, z51, z52, z53, z54, z55, z56, z57, z58, z59, z60, z61, z62, z63, z64, z65, z66, z67, z68, z69, z70, z71, z72, z73, z74, z75, z76, z77, z78, z79, z80, z81, z82, z83, z84, z85, z86, z87, z88, z89, z90, z91, z92, z93, z94, z95, z96, z97, z98, z99, z100, z101, z102, z103, z104, z105, z106, z107, z108, z109, z110, z111, z112, z113, z114, z115, z116, z117, z118, z119, z120, z121, z122, z123, z124, z125, z126, z127, z128, z129, z130, z200, z210, z240, z255, z256, z257, z264, z265, z266, z400, z500, z900, z999, z1000, z1500, z2000, z3000, z4000, z4001, z4002, z8191, z8192, z9000, z12600, z14909, z15677⟩
/-! arrays of the reference at a place within -/
theorem taI_of {x n : Nat} (hn : n < tlen x) (h2 : n < 2147483648) (h : tS) (K : Int32 → tR) : taI h x (Int32.ofNat n) K = K (tA h x n) := by
  unfold taI
  rw [if_neg, z_nat h2]
  rintro (q | q)
  · rw [show (0 : Int32) = Int32.ofNat 0 from rfl, z_lt h2 (by decide)] at q; omega
  · rw [z_nat h2] at q; omega
theorem taL_of {x n : Nat} (hn : n < tlen x) (h2 : n < 2147483648) (h : tS) (K : Int64 → tR) : taL h x (Int32.ofNat n) K = K (tB h x n) := by
  unfold taL
  rw [if_neg, z_nat h2]
  rintro (q | q)
  · rw [show (0 : Int32) = Int32.ofNat 0 from rfl, z_lt h2 (by decide)] at q; omega
  · rw [z_nat h2] at q; omega
theorem tsaI_of {x n : Nat} (hn : n < tlen x) (h2 : n < 2147483648) (h : tS) (v : Int32) (K : tS → tR) : tsaI h x (Int32.ofNat n) v K = K (tsA h x n v) := by
  unfold tsaI
  rw [if_neg, z_nat h2]
  rintro (q | q)
  · rw [show (0 : Int32) = Int32.ofNat 0 from rfl, z_lt h2 (by decide)] at q; omega
  · rw [z_nat h2] at q; omega
theorem tsaL_of {x n : Nat} (hn : n < tlen x) (h2 : n < 2147483648) (h : tS) (v : Int64) (K : tS → tR) : tsaL h x (Int32.ofNat n) v K = K (tsB h x n v) := by
  unfold tsaL
  rw [if_neg, z_nat h2]
  rintro (q | q)
  · rw [show (0 : Int32) = Int32.ofNat 0 from rfl, z_lt h2 (by decide)] at q; omega
  · rw [z_nat h2] at q; omega
theorem tsaB_of {x n : Nat} (hn : n < tlen x) (h2 : n < 2147483648) (h : tS) (v : Int32) (K : tS → tR) : tsaB h x (Int32.ofNat n) v K = K (tsA h x n v.toInt8.toInt32) := by
  unfold tsaB
  rw [if_neg, z_nat h2]
  rintro (q | q)
  · rw [show (0 : Int32) = Int32.ofNat 0 from rfl, z_lt h2 (by decide)] at q; omega
  · rw [z_nat h2] at q; omega
theorem tsaZ_of {x n : Nat} (hn : n < tlen x) (h2 : n < 2147483648) (h : tS) (v : Int32) (hv : v = 0 ∨ v = 1) (K : tS → tR) : tsaZ h x (Int32.ofNat n) v K = K (tsA h x n v) := by
  unfold tsaZ
  rw [if_neg, z_nat h2, if_pos hv]
  rintro (q | q)
  · rw [show (0 : Int32) = Int32.ofNat 0 from rfl, z_lt h2 (by decide)] at q; omega
  · rw [z_nat h2] at q; omega
theorem q_1 {n : Nat} (hn : n < 3000) (h : tS) (K : Int32 → tR) : taI h 1 (Int32.ofNat n) K = K (tA h 1 n) := taI_of (show n < tlen 1 from hn) (by omega) h K
theorem qs_1 {n : Nat} (hn : n < 3000) (h : tS) (v : Int32) (K : tS → tR) : tsaI h 1 (Int32.ofNat n) v K = K (tsA h 1 n v) := tsaI_of (show n < tlen 1 from hn) (by omega) h v K
theorem q_3 {n : Nat} (hn : n < 3000) (h : tS) (K : Int32 → tR) : taI h 3 (Int32.ofNat n) K = K (tA h 3 n) := taI_of (show n < tlen 3 from hn) (by omega) h K
theorem qs_3 {n : Nat} (hn : n < 3000) (h : tS) (v : Int32) (K : tS → tR) : tsaI h 3 (Int32.ofNat n) v K = K (tsA h 3 n v) := tsaI_of (show n < tlen 3 from hn) (by omega) h v K
theorem q_13 {n : Nat} (hn : n < 6) (h : tS) (K : Int64 → tR) : taL h 13 (Int32.ofNat n) K = K (tB h 13 n) := taL_of (show n < tlen 13 from hn) (by omega) h K
theorem qs_13 {n : Nat} (hn : n < 6) (h : tS) (v : Int64) (K : tS → tR) : tsaL h 13 (Int32.ofNat n) v K = K (tsB h 13 n v) := tsaL_of (show n < tlen 13 from hn) (by omega) h v K
theorem q_17 {n : Nat} (hn : n < 1330) (h : tS) (K : Int64 → tR) : taL h 17 (Int32.ofNat n) K = K (tB h 17 n) := taL_of (show n < tlen 17 from hn) (by omega) h K
theorem qs_17 {n : Nat} (hn : n < 1330) (h : tS) (v : Int64) (K : tS → tR) : tsaL h 17 (Int32.ofNat n) v K = K (tsB h 17 n v) := tsaL_of (show n < tlen 17 from hn) (by omega) h v K
theorem q_18 {n : Nat} (hn : n < 266) (h : tS) (K : Int32 → tR) : taI h 18 (Int32.ofNat n) K = K (tA h 18 n) := taI_of (show n < tlen 18 from hn) (by omega) h K
theorem qs_18 {n : Nat} (hn : n < 266) (h : tS) (v : Int32) (K : tS → tR) : tsaI h 18 (Int32.ofNat n) v K = K (tsA h 18 n v) := tsaI_of (show n < tlen 18 from hn) (by omega) h v K
theorem q_19 {n : Nat} (hn : n < 266) (h : tS) (K : Int32 → tR) : taI h 19 (Int32.ofNat n) K = K (tA h 19 n) := taI_of (show n < tlen 19 from hn) (by omega) h K
theorem qs_19 {n : Nat} (hn : n < 266) (h : tS) (v : Int32) (K : tS → tR) : tsaI h 19 (Int32.ofNat n) v K = K (tsA h 19 n v) := tsaI_of (show n < tlen 19 from hn) (by omega) h v K
theorem q_23 {n : Nat} (hn : n < 20) (h : tS) (K : Int32 → tR) : taI h 23 (Int32.ofNat n) K = K (tA h 23 n) := taI_of (show n < tlen 23 from hn) (by omega) h K
theorem qs_23 {n : Nat} (hn : n < 20) (h : tS) (v : Int32) (K : tS → tR) : tsaI h 23 (Int32.ofNat n) v K = K (tsA h 23 n v) := tsaI_of (show n < tlen 23 from hn) (by omega) h v K
theorem q_24 {n : Nat} (hn : n < 160) (h : tS) (K : Int64 → tR) : taL h 24 (Int32.ofNat n) K = K (tB h 24 n) := taL_of (show n < tlen 24 from hn) (by omega) h K
theorem qs_24 {n : Nat} (hn : n < 160) (h : tS) (v : Int64) (K : tS → tR) : tsaL h 24 (Int32.ofNat n) v K = K (tsB h 24 n v) := tsaL_of (show n < tlen 24 from hn) (by omega) h v K
theorem q_26 {n : Nat} (hn : n < 8) (h : tS) (K : Int64 → tR) : taL h 26 (Int32.ofNat n) K = K (tB h 26 n) := taL_of (show n < tlen 26 from hn) (by omega) h K
theorem qs_26 {n : Nat} (hn : n < 8) (h : tS) (v : Int64) (K : tS → tR) : tsaL h 26 (Int32.ofNat n) v K = K (tsB h 26 n v) := tsaL_of (show n < tlen 26 from hn) (by omega) h v K
theorem q_27 {n : Nat} (hn : n < 8) (h : tS) (K : Int32 → tR) : taI h 27 (Int32.ofNat n) K = K (tA h 27 n) := taI_of (show n < tlen 27 from hn) (by omega) h K
theorem qs_27 {n : Nat} (hn : n < 8) (h : tS) (v : Int32) (K : tS → tR) : tsaI h 27 (Int32.ofNat n) v K = K (tsA h 27 n v) := tsaI_of (show n < tlen 27 from hn) (by omega) h v K
theorem q_28 {n : Nat} (hn : n < 8) (h : tS) (K : Int32 → tR) : taI h 28 (Int32.ofNat n) K = K (tA h 28 n) := taI_of (show n < tlen 28 from hn) (by omega) h K
theorem qs_28 {n : Nat} (hn : n < 8) (h : tS) (v : Int32) (K : tS → tR) : tsaI h 28 (Int32.ofNat n) v K = K (tsA h 28 n v) := tsaI_of (show n < tlen 28 from hn) (by omega) h v K
theorem q_29 {n : Nat} (hn : n < 32) (h : tS) (K : Int64 → tR) : taL h 29 (Int32.ofNat n) K = K (tB h 29 n) := taL_of (show n < tlen 29 from hn) (by omega) h K
theorem qs_29 {n : Nat} (hn : n < 32) (h : tS) (v : Int64) (K : tS → tR) : tsaL h 29 (Int32.ofNat n) v K = K (tsB h 29 n v) := tsaL_of (show n < tlen 29 from hn) (by omega) h v K
theorem q_30 {n : Nat} (hn : n < 8) (h : tS) (K : Int32 → tR) : taI h 30 (Int32.ofNat n) K = K (tA h 30 n) := taI_of (show n < tlen 30 from hn) (by omega) h K
theorem qs_30 {n : Nat} (hn : n < 8) (h : tS) (v : Int32) (K : tS → tR) : tsaI h 30 (Int32.ofNat n) v K = K (tsA h 30 n v) := tsaI_of (show n < tlen 30 from hn) (by omega) h v K
theorem q_31 {n : Nat} (hn : n < 96) (h : tS) (K : Int32 → tR) : taI h 31 (Int32.ofNat n) K = K (tA h 31 n) := taI_of (show n < tlen 31 from hn) (by omega) h K
theorem qs_31 {n : Nat} (hn : n < 96) (h : tS) (v : Int32) (K : tS → tR) : tsaI h 31 (Int32.ofNat n) v K = K (tsA h 31 n v) := tsaI_of (show n < tlen 31 from hn) (by omega) h v K
theorem q_32 {n : Nat} (hn : n < 8) (h : tS) (K : Int32 → tR) : taI h 32 (Int32.ofNat n) K = K (tA h 32 n) := taI_of (show n < tlen 32 from hn) (by omega) h K
theorem qs_32 {n : Nat} (hn : n < 8) (h : tS) (v : Int32) (K : tS → tR) : tsaI h 32 (Int32.ofNat n) v K = K (tsA h 32 n v) := tsaI_of (show n < tlen 32 from hn) (by omega) h v K
theorem q_33 {n : Nat} (hn : n < 8) (h : tS) (K : Int32 → tR) : taI h 33 (Int32.ofNat n) K = K (tA h 33 n) := taI_of (show n < tlen 33 from hn) (by omega) h K
theorem qs_33 {n : Nat} (hn : n < 8) (h : tS) (v : Int32) (K : tS → tR) : tsaI h 33 (Int32.ofNat n) v K = K (tsA h 33 n v) := tsaI_of (show n < tlen 33 from hn) (by omega) h v K
theorem q_36 {n : Nat} (hn : n < 60) (h : tS) (K : Int32 → tR) : taI h 36 (Int32.ofNat n) K = K (tA h 36 n) := taI_of (show n < tlen 36 from hn) (by omega) h K
theorem qs_36 {n : Nat} (hn : n < 60) (h : tS) (v : Int32) (K : tS → tR) : tsaI h 36 (Int32.ofNat n) v K = K (tsA h 36 n v) := tsaI_of (show n < tlen 36 from hn) (by omega) h v K
theorem q_37 {n : Nat} (hn : n < 60) (h : tS) (K : Int32 → tR) : taI h 37 (Int32.ofNat n) K = K (tA h 37 n) := taI_of (show n < tlen 37 from hn) (by omega) h K
theorem qs_37 {n : Nat} (hn : n < 60) (h : tS) (v : Int32) (K : tS → tR) : tsaI h 37 (Int32.ofNat n) v K = K (tsA h 37 n v) := tsaI_of (show n < tlen 37 from hn) (by omega) h v K
theorem q_38 {n : Nat} (hn : n < 60) (h : tS) (K : Int32 → tR) : taI h 38 (Int32.ofNat n) K = K (tA h 38 n) := taI_of (show n < tlen 38 from hn) (by omega) h K
theorem qs_38 {n : Nat} (hn : n < 60) (h : tS) (v : Int32) (K : tS → tR) : tsaI h 38 (Int32.ofNat n) v K = K (tsA h 38 n v) := tsaI_of (show n < tlen 38 from hn) (by omega) h v K
theorem q_39 {n : Nat} (hn : n < 60) (h : tS) (K : Int32 → tR) : taI h 39 (Int32.ofNat n) K = K (tA h 39 n) := taI_of (show n < tlen 39 from hn) (by omega) h K
theorem qs_39 {n : Nat} (hn : n < 60) (h : tS) (v : Int32) (K : tS → tR) : tsaI h 39 (Int32.ofNat n) v K = K (tsA h 39 n v) := tsaI_of (show n < tlen 39 from hn) (by omega) h v K
theorem q_40 {n : Nat} (hn : n < 60) (h : tS) (K : Int32 → tR) : taI h 40 (Int32.ofNat n) K = K (tA h 40 n) := taI_of (show n < tlen 40 from hn) (by omega) h K
theorem qs_40 {n : Nat} (hn : n < 60) (h : tS) (v : Int32) (K : tS → tR) : tsaI h 40 (Int32.ofNat n) v K = K (tsA h 40 n v) := tsaI_of (show n < tlen 40 from hn) (by omega) h v K
theorem q_41 {n : Nat} (hn : n < 60) (h : tS) (K : Int32 → tR) : taI h 41 (Int32.ofNat n) K = K (tA h 41 n) := taI_of (show n < tlen 41 from hn) (by omega) h K
theorem qs_41 {n : Nat} (hn : n < 60) (h : tS) (v : Int32) (K : tS → tR) : tsaI h 41 (Int32.ofNat n) v K = K (tsA h 41 n v) := tsaI_of (show n < tlen 41 from hn) (by omega) h v K
theorem q_42 {n : Nat} (hn : n < 60) (h : tS) (K : Int32 → tR) : taI h 42 (Int32.ofNat n) K = K (tA h 42 n) := taI_of (show n < tlen 42 from hn) (by omega) h K
theorem qs_42 {n : Nat} (hn : n < 60) (h : tS) (v : Int32) (K : tS → tR) : tsaI h 42 (Int32.ofNat n) v K = K (tsA h 42 n v) := tsaI_of (show n < tlen 42 from hn) (by omega) h v K
theorem q_43 {n : Nat} (hn : n < 60) (h : tS) (K : Int64 → tR) : taL h 43 (Int32.ofNat n) K = K (tB h 43 n) := taL_of (show n < tlen 43 from hn) (by omega) h K
theorem qs_43 {n : Nat} (hn : n < 60) (h : tS) (v : Int64) (K : tS → tR) : tsaL h 43 (Int32.ofNat n) v K = K (tsB h 43 n v) := tsaL_of (show n < tlen 43 from hn) (by omega) h v K
theorem q_44 {n : Nat} (hn : n < 60) (h : tS) (K : Int32 → tR) : taI h 44 (Int32.ofNat n) K = K (tA h 44 n) := taI_of (show n < tlen 44 from hn) (by omega) h K
theorem qs_44 {n : Nat} (hn : n < 60) (h : tS) (v : Int32) (K : tS → tR) : tsaI h 44 (Int32.ofNat n) v K = K (tsA h 44 n v) := tsaI_of (show n < tlen 44 from hn) (by omega) h v K
theorem q_45 {n : Nat} (hn : n < 960) (h : tS) (K : Int32 → tR) : taI h 45 (Int32.ofNat n) K = K (tA h 45 n) := taI_of (show n < tlen 45 from hn) (by omega) h K
theorem qs_45 {n : Nat} (hn : n < 960) (h : tS) (v : Int32) (K : tS → tR) : tsaI h 45 (Int32.ofNat n) v K = K (tsA h 45 n v) := tsaI_of (show n < tlen 45 from hn) (by omega) h v K
theorem q_46 {n : Nat} (hn : n < 60) (h : tS) (K : Int32 → tR) : taI h 46 (Int32.ofNat n) K = K (tA h 46 n) := taI_of (show n < tlen 46 from hn) (by omega) h K
theorem qs_46 {n : Nat} (hn : n < 60) (h : tS) (v : Int32) (K : tS → tR) : tsaI h 46 (Int32.ofNat n) v K = K (tsA h 46 n v) := tsaI_of (show n < tlen 46 from hn) (by omega) h v K
theorem q_47 {n : Nat} (hn : n < 60) (h : tS) (K : Int32 → tR) : taI h 47 (Int32.ofNat n) K = K (tA h 47 n) := taI_of (show n < tlen 47 from hn) (by omega) h K
theorem qs_47 {n : Nat} (hn : n < 60) (h : tS) (v : Int32) (hv : v = 0 ∨ v = 1) (K : tS → tR) : tsaZ h 47 (Int32.ofNat n) v K = K (tsA h 47 n v) := tsaZ_of (show n < tlen 47 from hn) (by omega) h v hv K
theorem q_49 {n : Nat} (hn : n < 24) (h : tS) (K : Int64 → tR) : taL h 49 (Int32.ofNat n) K = K (tB h 49 n) := taL_of (show n < tlen 49 from hn) (by omega) h K
theorem qs_49 {n : Nat} (hn : n < 24) (h : tS) (v : Int64) (K : tS → tR) : tsaL h 49 (Int32.ofNat n) v K = K (tsB h 49 n v) := tsaL_of (show n < tlen 49 from hn) (by omega) h v K
theorem q_51 {n : Nat} (hn : n < 500) (h : tS) (K : Int32 → tR) : taI h 51 (Int32.ofNat n) K = K (tA h 51 n) := taI_of (show n < tlen 51 from hn) (by omega) h K
theorem qs_51 {n : Nat} (hn : n < 500) (h : tS) (v : Int32) (K : tS → tR) : tsaI h 51 (Int32.ofNat n) v K = K (tsA h 51 n v) := tsaI_of (show n < tlen 51 from hn) (by omega) h v K
theorem q_52 {n : Nat} (hn : n < 500) (h : tS) (K : Int64 → tR) : taL h 52 (Int32.ofNat n) K = K (tB h 52 n) := taL_of (show n < tlen 52 from hn) (by omega) h K
theorem qs_52 {n : Nat} (hn : n < 500) (h : tS) (v : Int64) (K : tS → tR) : tsaL h 52 (Int32.ofNat n) v K = K (tsB h 52 n v) := tsaL_of (show n < tlen 52 from hn) (by omega) h v K
theorem q_53 {n : Nat} (hn : n < 500) (h : tS) (K : Int32 → tR) : taI h 53 (Int32.ofNat n) K = K (tA h 53 n) := taI_of (show n < tlen 53 from hn) (by omega) h K
theorem qs_53 {n : Nat} (hn : n < 500) (h : tS) (v : Int32) (K : tS → tR) : tsaI h 53 (Int32.ofNat n) v K = K (tsA h 53 n v) := tsaI_of (show n < tlen 53 from hn) (by omega) h v K
theorem q_54 {n : Nat} (hn : n < 500) (h : tS) (K : Int32 → tR) : taI h 54 (Int32.ofNat n) K = K (tA h 54 n) := taI_of (show n < tlen 54 from hn) (by omega) h K
theorem qs_54 {n : Nat} (hn : n < 500) (h : tS) (v : Int32) (hv : v = 0 ∨ v = 1) (K : tS → tR) : tsaZ h 54 (Int32.ofNat n) v K = K (tsA h 54 n v) := tsaZ_of (show n < tlen 54 from hn) (by omega) h v hv K
theorem q_55 {n : Nat} (hn : n < 60) (h : tS) (K : Int32 → tR) : taI h 55 (Int32.ofNat n) K = K (tA h 55 n) := taI_of (show n < tlen 55 from hn) (by omega) h K
theorem qs_55 {n : Nat} (hn : n < 60) (h : tS) (v : Int32) (K : tS → tR) : tsaI h 55 (Int32.ofNat n) v K = K (tsA h 55 n v) := tsaI_of (show n < tlen 55 from hn) (by omega) h v K
theorem q_57 {n : Nat} (hn : n < 20) (h : tS) (K : Int32 → tR) : taI h 57 (Int32.ofNat n) K = K (tA h 57 n) := taI_of (show n < tlen 57 from hn) (by omega) h K
theorem qs_57 {n : Nat} (hn : n < 20) (h : tS) (v : Int32) (K : tS → tR) : tsaI h 57 (Int32.ofNat n) v K = K (tsA h 57 n v) := tsaI_of (show n < tlen 57 from hn) (by omega) h v K
theorem q_59 {n : Nat} (hn : n < 400) (h : tS) (K : Int32 → tR) : taI h 59 (Int32.ofNat n) K = K (tA h 59 n) := taI_of (show n < tlen 59 from hn) (by omega) h K
theorem qs_59 {n : Nat} (hn : n < 400) (h : tS) (v : Int32) (K : tS → tR) : tsaI h 59 (Int32.ofNat n) v K = K (tsA h 59 n v) := tsaI_of (show n < tlen 59 from hn) (by omega) h v K
theorem q_61 {n : Nat} (hn : n < 400) (h : tS) (K : Int64 → tR) : taL h 61 (Int32.ofNat n) K = K (tB h 61 n) := taL_of (show n < tlen 61 from hn) (by omega) h K
theorem qs_61 {n : Nat} (hn : n < 400) (h : tS) (v : Int64) (K : tS → tR) : tsaL h 61 (Int32.ofNat n) v K = K (tsB h 61 n v) := tsaL_of (show n < tlen 61 from hn) (by omega) h v K
theorem q_66 {n : Nat} (hn : n < 900) (h : tS) (K : Int32 → tR) : taI h 66 (Int32.ofNat n) K = K (tA h 66 n) := taI_of (show n < tlen 66 from hn) (by omega) h K
theorem qs_66 {n : Nat} (hn : n < 900) (h : tS) (v : Int32) (K : tS → tR) : tsaI h 66 (Int32.ofNat n) v K = K (tsA h 66 n v) := tsaI_of (show n < tlen 66 from hn) (by omega) h v K
theorem q_67 {n : Nat} (hn : n < 900) (h : tS) (K : Int32 → tR) : taI h 67 (Int32.ofNat n) K = K (tA h 67 n) := taI_of (show n < tlen 67 from hn) (by omega) h K
theorem qs_67 {n : Nat} (hn : n < 900) (h : tS) (v : Int32) (K : tS → tR) : tsaI h 67 (Int32.ofNat n) v K = K (tsA h 67 n v) := tsaI_of (show n < tlen 67 from hn) (by omega) h v K
theorem q_68 {n : Nat} (hn : n < 900) (h : tS) (K : Int32 → tR) : taI h 68 (Int32.ofNat n) K = K (tA h 68 n) := taI_of (show n < tlen 68 from hn) (by omega) h K
theorem qs_68 {n : Nat} (hn : n < 900) (h : tS) (v : Int32) (K : tS → tR) : tsaI h 68 (Int32.ofNat n) v K = K (tsA h 68 n v) := tsaI_of (show n < tlen 68 from hn) (by omega) h v K
theorem q_69 {n : Nat} (hn : n < 900) (h : tS) (K : Int32 → tR) : taI h 69 (Int32.ofNat n) K = K (tA h 69 n) := taI_of (show n < tlen 69 from hn) (by omega) h K
theorem qs_69 {n : Nat} (hn : n < 900) (h : tS) (v : Int32) (K : tS → tR) : tsaI h 69 (Int32.ofNat n) v K = K (tsA h 69 n v) := tsaI_of (show n < tlen 69 from hn) (by omega) h v K
theorem q_70 {n : Nat} (hn : n < 900) (h : tS) (K : Int32 → tR) : taI h 70 (Int32.ofNat n) K = K (tA h 70 n) := taI_of (show n < tlen 70 from hn) (by omega) h K
theorem qs_70 {n : Nat} (hn : n < 900) (h : tS) (v : Int32) (K : tS → tR) : tsaI h 70 (Int32.ofNat n) v K = K (tsA h 70 n v) := tsaI_of (show n < tlen 70 from hn) (by omega) h v K
theorem q_71 {n : Nat} (hn : n < 900) (h : tS) (K : Int32 → tR) : taI h 71 (Int32.ofNat n) K = K (tA h 71 n) := taI_of (show n < tlen 71 from hn) (by omega) h K
theorem qs_71 {n : Nat} (hn : n < 900) (h : tS) (v : Int32) (K : tS → tR) : tsaI h 71 (Int32.ofNat n) v K = K (tsA h 71 n v) := tsaI_of (show n < tlen 71 from hn) (by omega) h v K
theorem q_72 {n : Nat} (hn : n < 900) (h : tS) (K : Int32 → tR) : taI h 72 (Int32.ofNat n) K = K (tA h 72 n) := taI_of (show n < tlen 72 from hn) (by omega) h K
theorem qs_72 {n : Nat} (hn : n < 900) (h : tS) (v : Int32) (K : tS → tR) : tsaI h 72 (Int32.ofNat n) v K = K (tsA h 72 n v) := tsaI_of (show n < tlen 72 from hn) (by omega) h v K
theorem q_74 {n : Nat} (hn : n < 80000) (h : tS) (K : Int32 → tR) : taI h 74 (Int32.ofNat n) K = K (tA h 74 n) := taI_of (show n < tlen 74 from hn) (by omega) h K
theorem qs_74 {n : Nat} (hn : n < 80000) (h : tS) (v : Int32) (K : tS → tR) : tsaB h 74 (Int32.ofNat n) v K = K (tsA h 74 n v.toInt8.toInt32) := tsaB_of (show n < tlen 74 from hn) (by omega) h v K
theorem q_76 {n : Nat} (hn : n < 120) (h : tS) (K : Int32 → tR) : taI h 76 (Int32.ofNat n) K = K (tA h 76 n) := taI_of (show n < tlen 76 from hn) (by omega) h K
theorem qs_76 {n : Nat} (hn : n < 120) (h : tS) (v : Int32) (K : tS → tR) : tsaI h 76 (Int32.ofNat n) v K = K (tsA h 76 n v) := tsaI_of (show n < tlen 76 from hn) (by omega) h v K
theorem q_77 {n : Nat} (hn : n < 120) (h : tS) (K : Int32 → tR) : taI h 77 (Int32.ofNat n) K = K (tA h 77 n) := taI_of (show n < tlen 77 from hn) (by omega) h K
theorem qs_77 {n : Nat} (hn : n < 120) (h : tS) (v : Int32) (K : tS → tR) : tsaI h 77 (Int32.ofNat n) v K = K (tsA h 77 n v) := tsaI_of (show n < tlen 77 from hn) (by omega) h v K
theorem q_80 {n : Nat} (hn : n < 9) (h : tS) (K : Int32 → tR) : taI h 80 (Int32.ofNat n) K = K (tA h 80 n) := taI_of (show n < tlen 80 from hn) (by omega) h K
theorem qs_80 {n : Nat} (hn : n < 9) (h : tS) (v : Int32) (K : tS → tR) : tsaI h 80 (Int32.ofNat n) v K = K (tsA h 80 n v) := tsaI_of (show n < tlen 80 from hn) (by omega) h v K
theorem q_83 {n : Nat} (hn : n < 60) (h : tS) (K : Int32 → tR) : taI h 83 (Int32.ofNat n) K = K (tA h 83 n) := taI_of (show n < tlen 83 from hn) (by omega) h K
theorem qs_83 {n : Nat} (hn : n < 60) (h : tS) (v : Int32) (K : tS → tR) : tsaI h 83 (Int32.ofNat n) v K = K (tsA h 83 n v) := tsaI_of (show n < tlen 83 from hn) (by omega) h v K
theorem q_92 {n : Nat} (hn : n < 1000) (h : tS) (K : Int32 → tR) : taI h 92 (Int32.ofNat n) K = K (tA h 92 n) := taI_of (show n < tlen 92 from hn) (by omega) h K
theorem qs_92 {n : Nat} (hn : n < 1000) (h : tS) (v : Int32) (K : tS → tR) : tsaI h 92 (Int32.ofNat n) v K = K (tsA h 92 n v) := tsaI_of (show n < tlen 92 from hn) (by omega) h v K
theorem q_96 {n : Nat} (hn : n < 2000) (h : tS) (K : Int32 → tR) : taI h 96 (Int32.ofNat n) K = K (tA h 96 n) := taI_of (show n < tlen 96 from hn) (by omega) h K
theorem qs_96 {n : Nat} (hn : n < 2000) (h : tS) (v : Int32) (K : tS → tR) : tsaI h 96 (Int32.ofNat n) v K = K (tsA h 96 n v) := tsaI_of (show n < tlen 96 from hn) (by omega) h v K
theorem q_97 {n : Nat} (hn : n < 2000) (h : tS) (K : Int32 → tR) : taI h 97 (Int32.ofNat n) K = K (tA h 97 n) := taI_of (show n < tlen 97 from hn) (by omega) h K
theorem qs_97 {n : Nat} (hn : n < 2000) (h : tS) (v : Int32) (K : tS → tR) : tsaI h 97 (Int32.ofNat n) v K = K (tsA h 97 n v) := tsaI_of (show n < tlen 97 from hn) (by omega) h v K
theorem q_99 {n : Nat} (hn : n < 66000) (h : tS) (K : Int32 → tR) : taI h 99 (Int32.ofNat n) K = K (tA h 99 n) := taI_of (show n < tlen 99 from hn) (by omega) h K
theorem qs_99 {n : Nat} (hn : n < 66000) (h : tS) (v : Int32) (K : tS → tR) : tsaI h 99 (Int32.ofNat n) v K = K (tsA h 99 n v) := tsaI_of (show n < tlen 99 from hn) (by omega) h v K
theorem q_100 {n : Nat} (hn : n < 66000) (h : tS) (K : Int32 → tR) : taI h 100 (Int32.ofNat n) K = K (tA h 100 n) := taI_of (show n < tlen 100 from hn) (by omega) h K
theorem qs_100 {n : Nat} (hn : n < 66000) (h : tS) (v : Int32) (K : tS → tR) : tsaI h 100 (Int32.ofNat n) v K = K (tsA h 100 n v) := tsaI_of (show n < tlen 100 from hn) (by omega) h v K
theorem q_102 {n : Nat} (hn : n < 4001) (h : tS) (K : Int32 → tR) : taI h 102 (Int32.ofNat n) K = K (tA h 102 n) := taI_of (show n < tlen 102 from hn) (by omega) h K
theorem qs_102 {n : Nat} (hn : n < 4001) (h : tS) (v : Int32) (K : tS → tR) : tsaI h 102 (Int32.ofNat n) v K = K (tsA h 102 n v) := tsaI_of (show n < tlen 102 from hn) (by omega) h v K
theorem q_103 {n : Nat} (hn : n < 4001) (h : tS) (K : Int32 → tR) : taI h 103 (Int32.ofNat n) K = K (tA h 103 n) := taI_of (show n < tlen 103 from hn) (by omega) h K
theorem qs_103 {n : Nat} (hn : n < 4001) (h : tS) (v : Int32) (K : tS → tR) : tsaI h 103 (Int32.ofNat n) v K = K (tsA h 103 n v) := tsaI_of (show n < tlen 103 from hn) (by omega) h v K
theorem q_104 {n : Nat} (hn : n < 4001) (h : tS) (K : Int32 → tR) : taI h 104 (Int32.ofNat n) K = K (tA h 104 n) := taI_of (show n < tlen 104 from hn) (by omega) h K
theorem qs_104 {n : Nat} (hn : n < 4001) (h : tS) (v : Int32) (K : tS → tR) : tsaI h 104 (Int32.ofNat n) v K = K (tsA h 104 n v) := tsaI_of (show n < tlen 104 from hn) (by omega) h v K
theorem q_106 {n : Nat} (hn : n < 8) (h : tS) (K : Int32 → tR) : taI h 106 (Int32.ofNat n) K = K (tA h 106 n) := taI_of (show n < tlen 106 from hn) (by omega) h K
theorem qs_106 {n : Nat} (hn : n < 8) (h : tS) (v : Int32) (K : tS → tR) : tsaI h 106 (Int32.ofNat n) v K = K (tsA h 106 n v) := tsaI_of (show n < tlen 106 from hn) (by omega) h v K
theorem q_107 {n : Nat} (hn : n < 8) (h : tS) (K : Int32 → tR) : taI h 107 (Int32.ofNat n) K = K (tA h 107 n) := taI_of (show n < tlen 107 from hn) (by omega) h K
theorem qs_107 {n : Nat} (hn : n < 8) (h : tS) (v : Int32) (K : tS → tR) : tsaI h 107 (Int32.ofNat n) v K = K (tsA h 107 n v) := tsaI_of (show n < tlen 107 from hn) (by omega) h v K
theorem q_108 {n : Nat} (hn : n < 8) (h : tS) (K : Int32 → tR) : taI h 108 (Int32.ofNat n) K = K (tA h 108 n) := taI_of (show n < tlen 108 from hn) (by omega) h K
theorem qs_108 {n : Nat} (hn : n < 8) (h : tS) (v : Int32) (K : tS → tR) : tsaI h 108 (Int32.ofNat n) v K = K (tsA h 108 n v) := tsaI_of (show n < tlen 108 from hn) (by omega) h v K
theorem q_109 {n : Nat} (hn : n < 8) (h : tS) (K : Int32 → tR) : taI h 109 (Int32.ofNat n) K = K (tA h 109 n) := taI_of (show n < tlen 109 from hn) (by omega) h K
theorem qs_109 {n : Nat} (hn : n < 8) (h : tS) (v : Int32) (K : tS → tR) : tsaI h 109 (Int32.ofNat n) v K = K (tsA h 109 n v) := tsaI_of (show n < tlen 109 from hn) (by omega) h v K
theorem q_110 {n : Nat} (hn : n < 8) (h : tS) (K : Int32 → tR) : taI h 110 (Int32.ofNat n) K = K (tA h 110 n) := taI_of (show n < tlen 110 from hn) (by omega) h K
theorem qs_110 {n : Nat} (hn : n < 8) (h : tS) (v : Int32) (K : tS → tR) : tsaI h 110 (Int32.ofNat n) v K = K (tsA h 110 n v) := tsaI_of (show n < tlen 110 from hn) (by omega) h v K
theorem q_111 {n : Nat} (hn : n < 8) (h : tS) (K : Int32 → tR) : taI h 111 (Int32.ofNat n) K = K (tA h 111 n) := taI_of (show n < tlen 111 from hn) (by omega) h K
theorem qs_111 {n : Nat} (hn : n < 8) (h : tS) (v : Int32) (K : tS → tR) : tsaI h 111 (Int32.ofNat n) v K = K (tsA h 111 n v) := tsaI_of (show n < tlen 111 from hn) (by omega) h v K
theorem q_112 {n : Nat} (hn : n < 480) (h : tS) (K : Int32 → tR) : taI h 112 (Int32.ofNat n) K = K (tA h 112 n) := taI_of (show n < tlen 112 from hn) (by omega) h K
theorem qs_112 {n : Nat} (hn : n < 480) (h : tS) (v : Int32) (K : tS → tR) : tsaI h 112 (Int32.ofNat n) v K = K (tsA h 112 n v) := tsaI_of (show n < tlen 112 from hn) (by omega) h v K
theorem q_113 {n : Nat} (hn : n < 480) (h : tS) (K : Int32 → tR) : taI h 113 (Int32.ofNat n) K = K (tA h 113 n) := taI_of (show n < tlen 113 from hn) (by omega) h K
theorem qs_113 {n : Nat} (hn : n < 480) (h : tS) (v : Int32) (K : tS → tR) : tsaI h 113 (Int32.ofNat n) v K = K (tsA h 113 n v) := tsaI_of (show n < tlen 113 from hn) (by omega) h v K
theorem q_114 {n : Nat} (hn : n < 480) (h : tS) (K : Int32 → tR) : taI h 114 (Int32.ofNat n) K = K (tA h 114 n) := taI_of (show n < tlen 114 from hn) (by omega) h K
theorem qs_114 {n : Nat} (hn : n < 480) (h : tS) (v : Int32) (K : tS → tR) : tsaI h 114 (Int32.ofNat n) v K = K (tsA h 114 n v) := tsaI_of (show n < tlen 114 from hn) (by omega) h v K
theorem q_115 {n : Nat} (hn : n < 480) (h : tS) (K : Int32 → tR) : taI h 115 (Int32.ofNat n) K = K (tA h 115 n) := taI_of (show n < tlen 115 from hn) (by omega) h K
theorem qs_115 {n : Nat} (hn : n < 480) (h : tS) (v : Int32) (K : tS → tR) : tsaI h 115 (Int32.ofNat n) v K = K (tsA h 115 n v) := tsaI_of (show n < tlen 115 from hn) (by omega) h v K
theorem q_116 {n : Nat} (hn : n < 480) (h : tS) (K : Int32 → tR) : taI h 116 (Int32.ofNat n) K = K (tA h 116 n) := taI_of (show n < tlen 116 from hn) (by omega) h K
theorem qs_116 {n : Nat} (hn : n < 480) (h : tS) (v : Int32) (K : tS → tR) : tsaI h 116 (Int32.ofNat n) v K = K (tsA h 116 n v) := tsaI_of (show n < tlen 116 from hn) (by omega) h v K
theorem q_117 {n : Nat} (hn : n < 8) (h : tS) (K : Int32 → tR) : taI h 117 (Int32.ofNat n) K = K (tA h 117 n) := taI_of (show n < tlen 117 from hn) (by omega) h K
theorem qs_117 {n : Nat} (hn : n < 8) (h : tS) (v : Int32) (K : tS → tR) : tsaI h 117 (Int32.ofNat n) v K = K (tsA h 117 n v) := tsaI_of (show n < tlen 117 from hn) (by omega) h v K
theorem q_118 {n : Nat} (hn : n < 100800) (h : tS) (K : Int32 → tR) : taI h 118 (Int32.ofNat n) K = K (tA h 118 n) := taI_of (show n < tlen 118 from hn) (by omega) h K
theorem qs_118 {n : Nat} (hn : n < 100800) (h : tS) (v : Int32) (K : tS → tR) : tsaI h 118 (Int32.ofNat n) v K = K (tsA h 118 n v) := tsaI_of (show n < tlen 118 from hn) (by omega) h v K
theorem q_119 {n : Nat} (hn : n < 100800) (h : tS) (K : Int32 → tR) : taI h 119 (Int32.ofNat n) K = K (tA h 119 n) := taI_of (show n < tlen 119 from hn) (by omega) h K
theorem qs_119 {n : Nat} (hn : n < 100800) (h : tS) (v : Int32) (K : tS → tR) : tsaI h 119 (Int32.ofNat n) v K = K (tsA h 119 n v) := tsaI_of (show n < tlen 119 from hn) (by omega) h v K
theorem q_120 {n : Nat} (hn : n < 8) (h : tS) (K : Int32 → tR) : taI h 120 (Int32.ofNat n) K = K (tA h 120 n) := taI_of (show n < tlen 120 from hn) (by omega) h K
theorem qs_120 {n : Nat} (hn : n < 8) (h : tS) (v : Int32) (K : tS → tR) : tsaI h 120 (Int32.ofNat n) v K = K (tsA h 120 n v) := tsaI_of (show n < tlen 120 from hn) (by omega) h v K
theorem q_121 {n : Nat} (hn : n < 72000) (h : tS) (K : Int32 → tR) : taI h 121 (Int32.ofNat n) K = K (tA h 121 n) := taI_of (show n < tlen 121 from hn) (by omega) h K
theorem qs_121 {n : Nat} (hn : n < 72000) (h : tS) (v : Int32) (K : tS → tR) : tsaI h 121 (Int32.ofNat n) v K = K (tsA h 121 n v) := tsaI_of (show n < tlen 121 from hn) (by omega) h v K
theorem q_122 {n : Nat} (hn : n < 72000) (h : tS) (K : Int32 → tR) : taI h 122 (Int32.ofNat n) K = K (tA h 122 n) := taI_of (show n < tlen 122 from hn) (by omega) h K
theorem qs_122 {n : Nat} (hn : n < 72000) (h : tS) (v : Int32) (K : tS → tR) : tsaI h 122 (Int32.ofNat n) v K = K (tsA h 122 n v) := tsaI_of (show n < tlen 122 from hn) (by omega) h v K
theorem q_123 {n : Nat} (hn : n < 8) (h : tS) (K : Int32 → tR) : taI h 123 (Int32.ofNat n) K = K (tA h 123 n) := taI_of (show n < tlen 123 from hn) (by omega) h K
theorem qs_123 {n : Nat} (hn : n < 8) (h : tS) (v : Int32) (K : tS → tR) : tsaI h 123 (Int32.ofNat n) v K = K (tsA h 123 n v) := tsaI_of (show n < tlen 123 from hn) (by omega) h v K
theorem q_124 {n : Nat} (hn : n < 12000) (h : tS) (K : Int32 → tR) : taI h 124 (Int32.ofNat n) K = K (tA h 124 n) := taI_of (show n < tlen 124 from hn) (by omega) h K
theorem qs_124 {n : Nat} (hn : n < 12000) (h : tS) (v : Int32) (K : tS → tR) : tsaI h 124 (Int32.ofNat n) v K = K (tsA h 124 n v) := tsaI_of (show n < tlen 124 from hn) (by omega) h v K
theorem q_125 {n : Nat} (hn : n < 12000) (h : tS) (K : Int32 → tR) : taI h 125 (Int32.ofNat n) K = K (tA h 125 n) := taI_of (show n < tlen 125 from hn) (by omega) h K
theorem qs_125 {n : Nat} (hn : n < 12000) (h : tS) (v : Int32) (K : tS → tR) : tsaI h 125 (Int32.ofNat n) v K = K (tsA h 125 n v) := tsaI_of (show n < tlen 125 from hn) (by omega) h v K
theorem q_126 {n : Nat} (hn : n < 12000) (h : tS) (K : Int32 → tR) : taI h 126 (Int32.ofNat n) K = K (tA h 126 n) := taI_of (show n < tlen 126 from hn) (by omega) h K
theorem qs_126 {n : Nat} (hn : n < 12000) (h : tS) (v : Int32) (K : tS → tR) : tsaI h 126 (Int32.ofNat n) v K = K (tsA h 126 n v) := tsaI_of (show n < tlen 126 from hn) (by omega) h v K
theorem q_131 {n : Nat} (hn : n < 4002) (h : tS) (K : Int32 → tR) : taI h 131 (Int32.ofNat n) K = K (tA h 131 n) := taI_of (show n < tlen 131 from hn) (by omega) h K
theorem qs_131 {n : Nat} (hn : n < 4002) (h : tS) (v : Int32) (K : tS → tR) : tsaI h 131 (Int32.ofNat n) v K = K (tsA h 131 n v) := tsaI_of (show n < tlen 131 from hn) (by omega) h v K
theorem q_132 {n : Nat} (hn : n < 64032) (h : tS) (K : Int32 → tR) : taI h 132 (Int32.ofNat n) K = K (tA h 132 n) := taI_of (show n < tlen 132 from hn) (by omega) h K
theorem qs_132 {n : Nat} (hn : n < 64032) (h : tS) (v : Int32) (K : tS → tR) : tsaI h 132 (Int32.ofNat n) v K = K (tsA h 132 n v) := tsaI_of (show n < tlen 132 from hn) (by omega) h v K
theorem q_133 {n : Nat} (hn : n < 40) (h : tS) (K : Int32 → tR) : taI h 133 (Int32.ofNat n) K = K (tA h 133 n) := taI_of (show n < tlen 133 from hn) (by omega) h K
theorem qs_133 {n : Nat} (hn : n < 40) (h : tS) (v : Int32) (K : tS → tR) : tsaI h 133 (Int32.ofNat n) v K = K (tsA h 133 n v) := tsaI_of (show n < tlen 133 from hn) (by omega) h v K
theorem q_136 {n : Nat} (hn : n < 24) (h : tS) (K : Int32 → tR) : taI h 136 (Int32.ofNat n) K = K (tA h 136 n) := taI_of (show n < tlen 136 from hn) (by omega) h K
theorem qs_136 {n : Nat} (hn : n < 24) (h : tS) (v : Int32) (hv : v = 0 ∨ v = 1) (K : tS → tR) : tsaZ h 136 (Int32.ofNat n) v K = K (tsA h 136 n v) := tsaZ_of (show n < tlen 136 from hn) (by omega) h v hv K
/-! arrays of the component at a place within -/
theorem caI_of {h : cS} {a n : Nat} (hk : cak (cCl h a) = 2) (hn : n < cLen h a) (h2 : n < 2147483648) (K : Int32 → cRes) : caI h (.ref a) (Int32.ofNat n) K = K (cAI h a n) := by
  unfold caI
  simp only
  rw [if_pos, z_nat h2]
  refine ⟨hk, ?_⟩
  rintro (q | q)
  · rw [show (0 : Int32) = Int32.ofNat 0 from rfl, z_lt h2 (by decide)] at q; omega
  · rw [z_nat h2] at q; omega
theorem caB_of {h : cS} {a n : Nat} (hk : cak (cCl h a) = 1) (hn : n < cLen h a) (h2 : n < 2147483648) (K : Int32 → cRes) : caB h (.ref a) (Int32.ofNat n) K = K (cAI h a n) := by
  unfold caB
  simp only
  rw [if_pos, z_nat h2]
  refine ⟨hk, ?_⟩
  rintro (q | q)
  · rw [show (0 : Int32) = Int32.ofNat 0 from rfl, z_lt h2 (by decide)] at q; omega
  · rw [z_nat h2] at q; omega
theorem caL_of {h : cS} {a n : Nat} (hk : cak (cCl h a) = 3) (hn : n < cLen h a) (h2 : n < 2147483648) (K : Int64 → cRes) : caL h (.ref a) (Int32.ofNat n) K = K (cAL h a n) := by
  unfold caL
  simp only
  rw [if_pos, z_nat h2]
  refine ⟨hk, ?_⟩
  rintro (q | q)
  · rw [show (0 : Int32) = Int32.ofNat 0 from rfl, z_lt h2 (by decide)] at q; omega
  · rw [z_nat h2] at q; omega
theorem csaI_of {h : cS} {a n : Nat} (hk : cak (cCl h a) = 2) (hn : n < cLen h a) (h2 : n < 2147483648) (v : Int32) (K : cS → cRes) : csaI h (.ref a) (Int32.ofNat n) v K = K (csAI h a n v) := by
  unfold csaI
  simp only
  rw [if_pos, z_nat h2]
  refine ⟨hk, ?_⟩
  rintro (q | q)
  · rw [show (0 : Int32) = Int32.ofNat 0 from rfl, z_lt h2 (by decide)] at q; omega
  · rw [z_nat h2] at q; omega
theorem csaB_of {h : cS} {a n : Nat} (hk : cak (cCl h a) = 1) (hn : n < cLen h a) (h2 : n < 2147483648) (v : Int32) (K : cS → cRes) : csaB h (.ref a) (Int32.ofNat n) v K = K (csAI h a n v.toInt8.toInt32) := by
  unfold csaB
  simp only
  rw [if_pos, z_nat h2]
  refine ⟨hk, ?_⟩
  rintro (q | q)
  · rw [show (0 : Int32) = Int32.ofNat 0 from rfl, z_lt h2 (by decide)] at q; omega
  · rw [z_nat h2] at q; omega
theorem csaL_of {h : cS} {a n : Nat} (hk : cak (cCl h a) = 3) (hn : n < cLen h a) (h2 : n < 2147483648) (v : Int64) (K : cS → cRes) : csaL h (.ref a) (Int32.ofNat n) v K = K (csAL h a n v) := by
  unfold csaL
  simp only
  rw [if_pos, z_nat h2]
  refine ⟨hk, ?_⟩
  rintro (q | q)
  · rw [show (0 : Int32) = Int32.ofNat 0 from rfl, z_lt h2 (by decide)] at q; omega
  · rw [z_nat h2] at q; omega
theorem caR_of {h : cS} {a n : Nat} (hk : 4 ≤ cak (cCl h a)) (hk2 : cak (cCl h a) ≤ 7) (hn : n < cLen h a) (h2 : n < 2147483648) (K : Value → cRes) : caR h (.ref a) (Int32.ofNat n) K = K (cAR h a n) := by
  unfold caR
  simp only
  rw [if_pos, z_nat h2]
  refine ⟨hk, hk2, ?_⟩
  rintro (q | q)
  · rw [show (0 : Int32) = Int32.ofNat 0 from rfl, z_lt h2 (by decide)] at q; omega
  · rw [z_nat h2] at q; omega
theorem csaR_of {h : cS} {a n : Nat} {v : Value} (hv : ceok h (cak (cCl h a)) v = true) (hk : 4 ≤ cak (cCl h a)) (hk2 : cak (cCl h a) ≤ 7) (hn : n < cLen h a) (h2 : n < 2147483648) (K : cS → cRes) : csaR h (.ref a) (Int32.ofNat n) v K = K (csAR h a n v) := by
  unfold csaR
  simp only
  rw [if_pos, z_nat h2]
  refine ⟨hv, hk, hk2, ?_⟩
  rintro (q | q)
  · rw [show (0 : Int32) = Int32.ofNat 0 from rfl, z_lt h2 (by decide)] at q; omega
  · rw [z_nat h2] at q; omega
