set_option maxRecDepth 100000
/-- STUB: to be proved (Arrays.equals over Unsafe.getLong) -/
abbrev x3_isLike (s_sold : Nat → Int32) (s_fallen : Int32) (o_sold : Nat → Int32) (o_fallen : Int32) : Prop := s_fallen = o_fallen ∧ (s_sold 0 = o_sold 0 ∧ s_sold 1 = o_sold 1 ∧ s_sold 2 = o_sold 2 ∧ s_sold 3 = o_sold 3)
theorem met_X3_isLike {g : Zg} (hG : zG g) {G : zHG} {ks : Nat × Nat} {s bs : Nat} {s_sold : Nat → Int32} {s_fallen : Int32} {ko : Nat × Nat} {o bo : Nat} {o_sold : Nat → Int32} {o_fallen : Int32} (hs : zSt g G ks s bs s_sold s_fallen) (ho : zSt g G ko o bo o_sold o_fallen) : ZM g yX3_isLike cX3_isLike 2 (some .boolean) 5 0 0 [.ref s, .ref o] G (zRet (some (.int (if x3_isLike s_sold s_fallen o_sold o_fallen then 1 else 0))) G) := by
  sorry
