set_option maxRecDepth 100000
set_option maxHeartbeats 4000000
/-! D54a: a new unit's object, by the component's code (slow: alone here) -/
section
variable {c : cS}
theorem c_ui (d : Nat) {n s p : Int32} {m o : Value} (hm : misR m = true) (ho : misR o = true) : cC (d + 10) 1601 [eR (.ref (cNx c)), eI n, eI s, eI p, eR m, eR o] (nwC c 16) = some (.inl none, uiC c n s p m o) := by
  rw [kX16_init, r_cck, if_pos (nw_cl c 16), uX16_init, pq_obj, nw_cl c 16, if_neg (by decide), b_V]
  have k1 : cCl (nlC (nwC c 16) 6605 4) (cNx c) = 16 := (nl_old (by show cNx c ≠ cNx c + 1; omega)).trans (nw_cl c 16)
  refine (c_nl2 d (c := nwC c 16) (t := 11605) (k := 6605) (m := 4) rfl rfl (by decide) (by decide)).trans ?_
  refine (kpR (c := nlC (nwC c 16) 6605 4) 1605 (cNx c) (.ref (cNx c + 1)) .null _ k1 rfl).trans ?_
  refine (kpI (c := csR (nlC (nwC c 16) 6605 4) 1605 (cNx c) (.ref (cNx c + 1))) 1610 (cNx c) (-1) _ k1).trans ?_
  unfold uiC
  generalize hc3 : csI (csR (nlC (nwC c 16) 6605 4) 1605 (cNx c) (.ref (cNx c + 1))) 1610 (cNx c) (-1) = c3
  have n3 : cNx c3 = cNx c + 3 := by rw [← hc3]; rfl
  have k3 : cCl c3 (cNx c) = 16 := by rw [← hc3]; exact k1
  have k4 : cCl (nlC c3 6614 4) (cNx c) = 16 := (nl_old (by rw [n3]; omega)).trans k3
  refine (c_nl2 d (c := c3) (t := 11614) (k := 6614) (m := 4) rfl rfl (by decide) (by decide)).trans ?_
  rw [n3]
  refine (kpR (c := nlC c3 6614 4) 1614 (cNx c) (.ref (cNx c + 3)) .null _ k4 rfl).trans ?_
  generalize hc5 : csR (nlC c3 6614 4) 1614 (cNx c) (.ref (cNx c + 3)) = c5
  have n5 : cNx c5 = cNx c + 5 := by rw [← hc5]; show cNx c3 + 2 = _; rw [n3]
  have k5 : cCl c5 (cNx c) = 16 := by rw [← hc5]; exact k4
  have k6 : cCl (nlC c5 6617 2) (cNx c) = 16 := (nl_old (by rw [n5]; omega)).trans k5
  refine (c_nl2 d (c := c5) (t := 11617) (k := 6617) (m := 2) rfl rfl (by decide) (by decide)).trans ?_
  rw [n5]
  refine (kpR (c := nlC c5 6617 2) 1617 (cNx c) (.ref (cNx c + 5)) .null _ k6 rfl).trans ?_
  generalize hc7 : csR (nlC c5 6617 2) 1617 (cNx c) (.ref (cNx c + 5)) = c7
  have k7 : cCl c7 (cNx c) = 16 := by rw [← hc7]; exact k6
  refine (kpI (c := c7) 1600 (cNx c) n _ k7).trans ?_
  refine (kpI (c := csI c7 1600 (cNx c) n) 1601 (cNx c) s _ k7).trans ?_
  refine (kpI (c := csI (csI c7 1600 (cNx c) n) 1601 (cNx c) s) 1602 (cNx c) p _ k7).trans ?_
  refine (kpR (c := csI (csI (csI c7 1600 (cNx c) n) 1601 (cNx c) s) 1602 (cNx c) p) 1603 (cNx c) m .null _ k7 hm).trans ?_
  exact kpR (c := csR (csI (csI (csI c7 1600 (cNx c) n) 1601 (cNx c) s) 1602 (cNx c) p) 1603 (cNx c) m) 1604 (cNx c) o .null _ k7 ho
end
