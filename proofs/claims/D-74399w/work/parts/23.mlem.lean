set_option maxRecDepth 100000
theorem me_thrown (M : MT) : ms_thrown M (mt_thrown M) = M := meF M 0
theorem me2_thrown (M : MT) (v : Int32) (h : v = mt_thrown M) : ms_thrown M v = M := by rw [h]; exact me_thrown M
theorem mgs_thrown (M : MT) (v : Int32) : mt_thrown (ms_thrown M v) = v := mgFs M 0 v
theorem mm_thrown (M : MT) (a b : Int32) : ms_thrown (ms_thrown M a) b = ms_thrown M b := mmF M 0 a b
theorem mg_thrown_now (M : MT) (v : Nat → Int32) : mt_thrown (ms_now M v) = mt_thrown M := mgFA M 0 0 v
theorem mg_thrown_aside (M : MT) (v : Nat → Int32) : mt_thrown (ms_aside M v) = mt_thrown M := mgFA M 0 1 v
theorem mg_thrown_undos (M : MT) (v : Nat → Int32) : mt_thrown (ms_undos M v) = mt_thrown M := mgFA M 0 2 v
theorem mg_thrown_undoMany (M : MT) (v : Int32) : mt_thrown (ms_undoMany M v) = mt_thrown M := mgFF M 0 1 v (by decide)
theorem mg_thrown_tape (M : MT) (v : Nat → Int32) : mt_thrown (ms_tape M v) = mt_thrown M := mgFA M 0 3 v
theorem mg_thrown_taped (M : MT) (v : Int32) : mt_thrown (ms_taped M v) = mt_thrown M := mgFF M 0 2 v (by decide)
theorem mg_thrown_size (M : MT) (v : Int32) : mt_thrown (ms_size M v) = mt_thrown M := mgFF M 0 3 v (by decide)
theorem mg_thrown_at (M : MT) (v : Int32) : mt_thrown (ms_at M v) = mt_thrown M := mgFF M 0 4 v (by decide)
theorem mg_thrown_token (M : MT) (v : Int32) : mt_thrown (ms_token M v) = mt_thrown M := mgFF M 0 5 v (by decide)
theorem mg_thrown_from (M : MT) (v : Int32) : mt_thrown (ms_from M v) = mt_thrown M := mgFF M 0 6 v (by decide)
theorem mg_thrown_value (M : MT) (v : Int32) : mt_thrown (ms_value M v) = mt_thrown M := mgFF M 0 7 v (by decide)
theorem mg_thrown_fault (M : MT) (v : Int32) : mt_thrown (ms_fault M v) = mt_thrown M := mgFF M 0 8 v (by decide)
theorem mg_thrown_sold (M : MT) (v : Nat → Int32) : mt_thrown (ms_sold M v) = mt_thrown M := mgFA M 0 4 v
theorem mg_thrown_sells (M : MT) (v : Nat → Int32) : mt_thrown (ms_sells M v) = mt_thrown M := mgFA M 0 5 v
theorem mg_thrown_fallen (M : MT) (v : Int32) : mt_thrown (ms_fallen M v) = mt_thrown M := mgFF M 0 9 v (by decide)
theorem mg_thrown_willFall (M : MT) (v : Int32) : mt_thrown (ms_willFall M v) = mt_thrown M := mgFF M 0 10 v (by decide)
theorem mg_thrown_rounds (M : MT) (v : Int32) : mt_thrown (ms_rounds M v) = mt_thrown M := mgFF M 0 11 v (by decide)
theorem mg_thrown_coins (M : MT) (v : Nat → Int32) : mt_thrown (ms_coins M v) = mt_thrown M := mgFA M 0 6 v
theorem mg_thrown_extraOf (M : MT) (v : Int32) : mt_thrown (ms_extraOf M v) = mt_thrown M := mgFF M 0 12 v (by decide)
theorem mg_thrown_extraCap (M : MT) (v : Int32) : mt_thrown (ms_extraCap M v) = mt_thrown M := mgFF M 0 13 v (by decide)
theorem mg_thrown_extraShock (M : MT) (v : Int32) : mt_thrown (ms_extraShock M v) = mt_thrown M := mgFF M 0 14 v (by decide)
theorem mg_thrown_buyerOf (M : MT) (v : Int32) : mt_thrown (ms_buyerOf M v) = mt_thrown M := mgFF M 0 15 v (by decide)
theorem mg_thrown_buys (M : MT) (v : Int32) : mt_thrown (ms_buys M v) = mt_thrown M := mgFF M 0 16 v (by decide)
theorem mg_thrown_part (M : MT) (v : Int32) : mt_thrown (ms_part M v) = mt_thrown M := mgFF M 0 17 v (by decide)
theorem mg_thrown_forced (M : MT) (v : Int32) : mt_thrown (ms_forced M v) = mt_thrown M := mgFF M 0 18 v (by decide)
theorem mg_thrown_left (M : MT) (v : Nat → Int32) : mt_thrown (ms_left M v) = mt_thrown M := mgFA M 0 7 v
theorem mg_thrown_prices (M : MT) (v : Nat → Int32) : mt_thrown (ms_prices M v) = mt_thrown M := mgFA M 0 8 v
theorem mg_thrown_musts (M : MT) (v : Nat → Int32) : mt_thrown (ms_musts M v) = mt_thrown M := mgFA M 0 9 v
theorem mg_thrown_fell (M : MT) (v : Nat → Int32) : mt_thrown (ms_fell M v) = mt_thrown M := mgFA M 0 10 v
theorem mg_thrown_leastLost (M : MT) (v : Int32) : mt_thrown (ms_leastLost M v) = mt_thrown M := mgFF M 0 19 v (by decide)
theorem mg_thrown_gifts (M : MT) (v : Nat → Int32) : mt_thrown (ms_gifts M v) = mt_thrown M := mgFA M 0 11 v
theorem mg_thrown_bestGifts (M : MT) (v : Nat → Int32) : mt_thrown (ms_bestGifts M v) = mt_thrown M := mgFA M 0 12 v
theorem mg_thrown_spelt (M : MT) (v : Nat → Int32) : mt_thrown (ms_spelt M v) = mt_thrown M := mgFA M 0 13 v
theorem mg_thrown_speltMany (M : MT) (v : Int32) : mt_thrown (ms_speltMany M v) = mt_thrown M := mgFF M 0 20 v (by decide)
theorem me_now (M : MT) : ms_now M (mt_now M) = M := meA M 0
theorem me2_now (M : MT) (v : Nat → Int32) (h : v = mt_now M) : ms_now M v = M := by rw [h]; exact me_now M
theorem mgs_now (M : MT) (v : Nat → Int32) : mt_now (ms_now M v) = v := mgAs M 0 v
theorem mm_now (M : MT) (a b : Nat → Int32) : ms_now (ms_now M a) b = ms_now M b := mmA M 0 a b
theorem mg_now_thrown (M : MT) (v : Int32) : mt_now (ms_thrown M v) = mt_now M := mgAF M 0 0 v
theorem mg_now_aside (M : MT) (v : Nat → Int32) : mt_now (ms_aside M v) = mt_now M := mgAA M 0 1 v (by decide)
theorem mg_now_undos (M : MT) (v : Nat → Int32) : mt_now (ms_undos M v) = mt_now M := mgAA M 0 2 v (by decide)
theorem mg_now_undoMany (M : MT) (v : Int32) : mt_now (ms_undoMany M v) = mt_now M := mgAF M 0 1 v
theorem mg_now_tape (M : MT) (v : Nat → Int32) : mt_now (ms_tape M v) = mt_now M := mgAA M 0 3 v (by decide)
theorem mg_now_taped (M : MT) (v : Int32) : mt_now (ms_taped M v) = mt_now M := mgAF M 0 2 v
theorem mg_now_size (M : MT) (v : Int32) : mt_now (ms_size M v) = mt_now M := mgAF M 0 3 v
theorem mg_now_at (M : MT) (v : Int32) : mt_now (ms_at M v) = mt_now M := mgAF M 0 4 v
theorem mg_now_token (M : MT) (v : Int32) : mt_now (ms_token M v) = mt_now M := mgAF M 0 5 v
theorem mg_now_from (M : MT) (v : Int32) : mt_now (ms_from M v) = mt_now M := mgAF M 0 6 v
theorem mg_now_value (M : MT) (v : Int32) : mt_now (ms_value M v) = mt_now M := mgAF M 0 7 v
theorem mg_now_fault (M : MT) (v : Int32) : mt_now (ms_fault M v) = mt_now M := mgAF M 0 8 v
theorem mg_now_sold (M : MT) (v : Nat → Int32) : mt_now (ms_sold M v) = mt_now M := mgAA M 0 4 v (by decide)
theorem mg_now_sells (M : MT) (v : Nat → Int32) : mt_now (ms_sells M v) = mt_now M := mgAA M 0 5 v (by decide)
theorem mg_now_fallen (M : MT) (v : Int32) : mt_now (ms_fallen M v) = mt_now M := mgAF M 0 9 v
theorem mg_now_willFall (M : MT) (v : Int32) : mt_now (ms_willFall M v) = mt_now M := mgAF M 0 10 v
theorem mg_now_rounds (M : MT) (v : Int32) : mt_now (ms_rounds M v) = mt_now M := mgAF M 0 11 v
theorem mg_now_coins (M : MT) (v : Nat → Int32) : mt_now (ms_coins M v) = mt_now M := mgAA M 0 6 v (by decide)
theorem mg_now_extraOf (M : MT) (v : Int32) : mt_now (ms_extraOf M v) = mt_now M := mgAF M 0 12 v
theorem mg_now_extraCap (M : MT) (v : Int32) : mt_now (ms_extraCap M v) = mt_now M := mgAF M 0 13 v
theorem mg_now_extraShock (M : MT) (v : Int32) : mt_now (ms_extraShock M v) = mt_now M := mgAF M 0 14 v
theorem mg_now_buyerOf (M : MT) (v : Int32) : mt_now (ms_buyerOf M v) = mt_now M := mgAF M 0 15 v
theorem mg_now_buys (M : MT) (v : Int32) : mt_now (ms_buys M v) = mt_now M := mgAF M 0 16 v
theorem mg_now_part (M : MT) (v : Int32) : mt_now (ms_part M v) = mt_now M := mgAF M 0 17 v
theorem mg_now_forced (M : MT) (v : Int32) : mt_now (ms_forced M v) = mt_now M := mgAF M 0 18 v
theorem mg_now_left (M : MT) (v : Nat → Int32) : mt_now (ms_left M v) = mt_now M := mgAA M 0 7 v (by decide)
theorem mg_now_prices (M : MT) (v : Nat → Int32) : mt_now (ms_prices M v) = mt_now M := mgAA M 0 8 v (by decide)
theorem mg_now_musts (M : MT) (v : Nat → Int32) : mt_now (ms_musts M v) = mt_now M := mgAA M 0 9 v (by decide)
theorem mg_now_fell (M : MT) (v : Nat → Int32) : mt_now (ms_fell M v) = mt_now M := mgAA M 0 10 v (by decide)
theorem mg_now_leastLost (M : MT) (v : Int32) : mt_now (ms_leastLost M v) = mt_now M := mgAF M 0 19 v
theorem mg_now_gifts (M : MT) (v : Nat → Int32) : mt_now (ms_gifts M v) = mt_now M := mgAA M 0 11 v (by decide)
theorem mg_now_bestGifts (M : MT) (v : Nat → Int32) : mt_now (ms_bestGifts M v) = mt_now M := mgAA M 0 12 v (by decide)
theorem mg_now_spelt (M : MT) (v : Nat → Int32) : mt_now (ms_spelt M v) = mt_now M := mgAA M 0 13 v (by decide)
theorem mg_now_speltMany (M : MT) (v : Int32) : mt_now (ms_speltMany M v) = mt_now M := mgAF M 0 20 v
theorem me_aside (M : MT) : ms_aside M (mt_aside M) = M := meA M 1
theorem me2_aside (M : MT) (v : Nat → Int32) (h : v = mt_aside M) : ms_aside M v = M := by rw [h]; exact me_aside M
theorem mgs_aside (M : MT) (v : Nat → Int32) : mt_aside (ms_aside M v) = v := mgAs M 1 v
theorem mm_aside (M : MT) (a b : Nat → Int32) : ms_aside (ms_aside M a) b = ms_aside M b := mmA M 1 a b
theorem mg_aside_thrown (M : MT) (v : Int32) : mt_aside (ms_thrown M v) = mt_aside M := mgAF M 1 0 v
theorem mg_aside_now (M : MT) (v : Nat → Int32) : mt_aside (ms_now M v) = mt_aside M := mgAA M 1 0 v (by decide)
theorem mg_aside_undos (M : MT) (v : Nat → Int32) : mt_aside (ms_undos M v) = mt_aside M := mgAA M 1 2 v (by decide)
theorem mg_aside_undoMany (M : MT) (v : Int32) : mt_aside (ms_undoMany M v) = mt_aside M := mgAF M 1 1 v
theorem mg_aside_tape (M : MT) (v : Nat → Int32) : mt_aside (ms_tape M v) = mt_aside M := mgAA M 1 3 v (by decide)
theorem mg_aside_taped (M : MT) (v : Int32) : mt_aside (ms_taped M v) = mt_aside M := mgAF M 1 2 v
theorem mg_aside_size (M : MT) (v : Int32) : mt_aside (ms_size M v) = mt_aside M := mgAF M 1 3 v
theorem mg_aside_at (M : MT) (v : Int32) : mt_aside (ms_at M v) = mt_aside M := mgAF M 1 4 v
theorem mg_aside_token (M : MT) (v : Int32) : mt_aside (ms_token M v) = mt_aside M := mgAF M 1 5 v
theorem mg_aside_from (M : MT) (v : Int32) : mt_aside (ms_from M v) = mt_aside M := mgAF M 1 6 v
theorem mg_aside_value (M : MT) (v : Int32) : mt_aside (ms_value M v) = mt_aside M := mgAF M 1 7 v
theorem mg_aside_fault (M : MT) (v : Int32) : mt_aside (ms_fault M v) = mt_aside M := mgAF M 1 8 v
theorem mg_aside_sold (M : MT) (v : Nat → Int32) : mt_aside (ms_sold M v) = mt_aside M := mgAA M 1 4 v (by decide)
theorem mg_aside_sells (M : MT) (v : Nat → Int32) : mt_aside (ms_sells M v) = mt_aside M := mgAA M 1 5 v (by decide)
theorem mg_aside_fallen (M : MT) (v : Int32) : mt_aside (ms_fallen M v) = mt_aside M := mgAF M 1 9 v
theorem mg_aside_willFall (M : MT) (v : Int32) : mt_aside (ms_willFall M v) = mt_aside M := mgAF M 1 10 v
theorem mg_aside_rounds (M : MT) (v : Int32) : mt_aside (ms_rounds M v) = mt_aside M := mgAF M 1 11 v
theorem mg_aside_coins (M : MT) (v : Nat → Int32) : mt_aside (ms_coins M v) = mt_aside M := mgAA M 1 6 v (by decide)
theorem mg_aside_extraOf (M : MT) (v : Int32) : mt_aside (ms_extraOf M v) = mt_aside M := mgAF M 1 12 v
theorem mg_aside_extraCap (M : MT) (v : Int32) : mt_aside (ms_extraCap M v) = mt_aside M := mgAF M 1 13 v
theorem mg_aside_extraShock (M : MT) (v : Int32) : mt_aside (ms_extraShock M v) = mt_aside M := mgAF M 1 14 v
theorem mg_aside_buyerOf (M : MT) (v : Int32) : mt_aside (ms_buyerOf M v) = mt_aside M := mgAF M 1 15 v
theorem mg_aside_buys (M : MT) (v : Int32) : mt_aside (ms_buys M v) = mt_aside M := mgAF M 1 16 v
theorem mg_aside_part (M : MT) (v : Int32) : mt_aside (ms_part M v) = mt_aside M := mgAF M 1 17 v
theorem mg_aside_forced (M : MT) (v : Int32) : mt_aside (ms_forced M v) = mt_aside M := mgAF M 1 18 v
theorem mg_aside_left (M : MT) (v : Nat → Int32) : mt_aside (ms_left M v) = mt_aside M := mgAA M 1 7 v (by decide)
theorem mg_aside_prices (M : MT) (v : Nat → Int32) : mt_aside (ms_prices M v) = mt_aside M := mgAA M 1 8 v (by decide)
theorem mg_aside_musts (M : MT) (v : Nat → Int32) : mt_aside (ms_musts M v) = mt_aside M := mgAA M 1 9 v (by decide)
theorem mg_aside_fell (M : MT) (v : Nat → Int32) : mt_aside (ms_fell M v) = mt_aside M := mgAA M 1 10 v (by decide)
theorem mg_aside_leastLost (M : MT) (v : Int32) : mt_aside (ms_leastLost M v) = mt_aside M := mgAF M 1 19 v
theorem mg_aside_gifts (M : MT) (v : Nat → Int32) : mt_aside (ms_gifts M v) = mt_aside M := mgAA M 1 11 v (by decide)
theorem mg_aside_bestGifts (M : MT) (v : Nat → Int32) : mt_aside (ms_bestGifts M v) = mt_aside M := mgAA M 1 12 v (by decide)
theorem mg_aside_spelt (M : MT) (v : Nat → Int32) : mt_aside (ms_spelt M v) = mt_aside M := mgAA M 1 13 v (by decide)
theorem mg_aside_speltMany (M : MT) (v : Int32) : mt_aside (ms_speltMany M v) = mt_aside M := mgAF M 1 20 v
theorem me_undos (M : MT) : ms_undos M (mt_undos M) = M := meA M 2
theorem me2_undos (M : MT) (v : Nat → Int32) (h : v = mt_undos M) : ms_undos M v = M := by rw [h]; exact me_undos M
theorem mgs_undos (M : MT) (v : Nat → Int32) : mt_undos (ms_undos M v) = v := mgAs M 2 v
theorem mm_undos (M : MT) (a b : Nat → Int32) : ms_undos (ms_undos M a) b = ms_undos M b := mmA M 2 a b
theorem mg_undos_thrown (M : MT) (v : Int32) : mt_undos (ms_thrown M v) = mt_undos M := mgAF M 2 0 v
theorem mg_undos_now (M : MT) (v : Nat → Int32) : mt_undos (ms_now M v) = mt_undos M := mgAA M 2 0 v (by decide)
theorem mg_undos_aside (M : MT) (v : Nat → Int32) : mt_undos (ms_aside M v) = mt_undos M := mgAA M 2 1 v (by decide)
theorem mg_undos_undoMany (M : MT) (v : Int32) : mt_undos (ms_undoMany M v) = mt_undos M := mgAF M 2 1 v
theorem mg_undos_tape (M : MT) (v : Nat → Int32) : mt_undos (ms_tape M v) = mt_undos M := mgAA M 2 3 v (by decide)
theorem mg_undos_taped (M : MT) (v : Int32) : mt_undos (ms_taped M v) = mt_undos M := mgAF M 2 2 v
theorem mg_undos_size (M : MT) (v : Int32) : mt_undos (ms_size M v) = mt_undos M := mgAF M 2 3 v
theorem mg_undos_at (M : MT) (v : Int32) : mt_undos (ms_at M v) = mt_undos M := mgAF M 2 4 v
theorem mg_undos_token (M : MT) (v : Int32) : mt_undos (ms_token M v) = mt_undos M := mgAF M 2 5 v
theorem mg_undos_from (M : MT) (v : Int32) : mt_undos (ms_from M v) = mt_undos M := mgAF M 2 6 v
theorem mg_undos_value (M : MT) (v : Int32) : mt_undos (ms_value M v) = mt_undos M := mgAF M 2 7 v
theorem mg_undos_fault (M : MT) (v : Int32) : mt_undos (ms_fault M v) = mt_undos M := mgAF M 2 8 v
theorem mg_undos_sold (M : MT) (v : Nat → Int32) : mt_undos (ms_sold M v) = mt_undos M := mgAA M 2 4 v (by decide)
theorem mg_undos_sells (M : MT) (v : Nat → Int32) : mt_undos (ms_sells M v) = mt_undos M := mgAA M 2 5 v (by decide)
theorem mg_undos_fallen (M : MT) (v : Int32) : mt_undos (ms_fallen M v) = mt_undos M := mgAF M 2 9 v
theorem mg_undos_willFall (M : MT) (v : Int32) : mt_undos (ms_willFall M v) = mt_undos M := mgAF M 2 10 v
theorem mg_undos_rounds (M : MT) (v : Int32) : mt_undos (ms_rounds M v) = mt_undos M := mgAF M 2 11 v
theorem mg_undos_coins (M : MT) (v : Nat → Int32) : mt_undos (ms_coins M v) = mt_undos M := mgAA M 2 6 v (by decide)
theorem mg_undos_extraOf (M : MT) (v : Int32) : mt_undos (ms_extraOf M v) = mt_undos M := mgAF M 2 12 v
theorem mg_undos_extraCap (M : MT) (v : Int32) : mt_undos (ms_extraCap M v) = mt_undos M := mgAF M 2 13 v
theorem mg_undos_extraShock (M : MT) (v : Int32) : mt_undos (ms_extraShock M v) = mt_undos M := mgAF M 2 14 v
theorem mg_undos_buyerOf (M : MT) (v : Int32) : mt_undos (ms_buyerOf M v) = mt_undos M := mgAF M 2 15 v
theorem mg_undos_buys (M : MT) (v : Int32) : mt_undos (ms_buys M v) = mt_undos M := mgAF M 2 16 v
theorem mg_undos_part (M : MT) (v : Int32) : mt_undos (ms_part M v) = mt_undos M := mgAF M 2 17 v
theorem mg_undos_forced (M : MT) (v : Int32) : mt_undos (ms_forced M v) = mt_undos M := mgAF M 2 18 v
theorem mg_undos_left (M : MT) (v : Nat → Int32) : mt_undos (ms_left M v) = mt_undos M := mgAA M 2 7 v (by decide)
theorem mg_undos_prices (M : MT) (v : Nat → Int32) : mt_undos (ms_prices M v) = mt_undos M := mgAA M 2 8 v (by decide)
theorem mg_undos_musts (M : MT) (v : Nat → Int32) : mt_undos (ms_musts M v) = mt_undos M := mgAA M 2 9 v (by decide)
theorem mg_undos_fell (M : MT) (v : Nat → Int32) : mt_undos (ms_fell M v) = mt_undos M := mgAA M 2 10 v (by decide)
theorem mg_undos_leastLost (M : MT) (v : Int32) : mt_undos (ms_leastLost M v) = mt_undos M := mgAF M 2 19 v
theorem mg_undos_gifts (M : MT) (v : Nat → Int32) : mt_undos (ms_gifts M v) = mt_undos M := mgAA M 2 11 v (by decide)
theorem mg_undos_bestGifts (M : MT) (v : Nat → Int32) : mt_undos (ms_bestGifts M v) = mt_undos M := mgAA M 2 12 v (by decide)
theorem mg_undos_spelt (M : MT) (v : Nat → Int32) : mt_undos (ms_spelt M v) = mt_undos M := mgAA M 2 13 v (by decide)
theorem mg_undos_speltMany (M : MT) (v : Int32) : mt_undos (ms_speltMany M v) = mt_undos M := mgAF M 2 20 v
theorem me_undoMany (M : MT) : ms_undoMany M (mt_undoMany M) = M := meF M 1
theorem me2_undoMany (M : MT) (v : Int32) (h : v = mt_undoMany M) : ms_undoMany M v = M := by rw [h]; exact me_undoMany M
theorem mgs_undoMany (M : MT) (v : Int32) : mt_undoMany (ms_undoMany M v) = v := mgFs M 1 v
theorem mm_undoMany (M : MT) (a b : Int32) : ms_undoMany (ms_undoMany M a) b = ms_undoMany M b := mmF M 1 a b
theorem mg_undoMany_thrown (M : MT) (v : Int32) : mt_undoMany (ms_thrown M v) = mt_undoMany M := mgFF M 1 0 v (by decide)
theorem mg_undoMany_now (M : MT) (v : Nat → Int32) : mt_undoMany (ms_now M v) = mt_undoMany M := mgFA M 1 0 v
theorem mg_undoMany_aside (M : MT) (v : Nat → Int32) : mt_undoMany (ms_aside M v) = mt_undoMany M := mgFA M 1 1 v
theorem mg_undoMany_undos (M : MT) (v : Nat → Int32) : mt_undoMany (ms_undos M v) = mt_undoMany M := mgFA M 1 2 v
theorem mg_undoMany_tape (M : MT) (v : Nat → Int32) : mt_undoMany (ms_tape M v) = mt_undoMany M := mgFA M 1 3 v
theorem mg_undoMany_taped (M : MT) (v : Int32) : mt_undoMany (ms_taped M v) = mt_undoMany M := mgFF M 1 2 v (by decide)
theorem mg_undoMany_size (M : MT) (v : Int32) : mt_undoMany (ms_size M v) = mt_undoMany M := mgFF M 1 3 v (by decide)
theorem mg_undoMany_at (M : MT) (v : Int32) : mt_undoMany (ms_at M v) = mt_undoMany M := mgFF M 1 4 v (by decide)
theorem mg_undoMany_token (M : MT) (v : Int32) : mt_undoMany (ms_token M v) = mt_undoMany M := mgFF M 1 5 v (by decide)
theorem mg_undoMany_from (M : MT) (v : Int32) : mt_undoMany (ms_from M v) = mt_undoMany M := mgFF M 1 6 v (by decide)
theorem mg_undoMany_value (M : MT) (v : Int32) : mt_undoMany (ms_value M v) = mt_undoMany M := mgFF M 1 7 v (by decide)
theorem mg_undoMany_fault (M : MT) (v : Int32) : mt_undoMany (ms_fault M v) = mt_undoMany M := mgFF M 1 8 v (by decide)
theorem mg_undoMany_sold (M : MT) (v : Nat → Int32) : mt_undoMany (ms_sold M v) = mt_undoMany M := mgFA M 1 4 v
theorem mg_undoMany_sells (M : MT) (v : Nat → Int32) : mt_undoMany (ms_sells M v) = mt_undoMany M := mgFA M 1 5 v
theorem mg_undoMany_fallen (M : MT) (v : Int32) : mt_undoMany (ms_fallen M v) = mt_undoMany M := mgFF M 1 9 v (by decide)
theorem mg_undoMany_willFall (M : MT) (v : Int32) : mt_undoMany (ms_willFall M v) = mt_undoMany M := mgFF M 1 10 v (by decide)
theorem mg_undoMany_rounds (M : MT) (v : Int32) : mt_undoMany (ms_rounds M v) = mt_undoMany M := mgFF M 1 11 v (by decide)
theorem mg_undoMany_coins (M : MT) (v : Nat → Int32) : mt_undoMany (ms_coins M v) = mt_undoMany M := mgFA M 1 6 v
theorem mg_undoMany_extraOf (M : MT) (v : Int32) : mt_undoMany (ms_extraOf M v) = mt_undoMany M := mgFF M 1 12 v (by decide)
theorem mg_undoMany_extraCap (M : MT) (v : Int32) : mt_undoMany (ms_extraCap M v) = mt_undoMany M := mgFF M 1 13 v (by decide)
theorem mg_undoMany_extraShock (M : MT) (v : Int32) : mt_undoMany (ms_extraShock M v) = mt_undoMany M := mgFF M 1 14 v (by decide)
theorem mg_undoMany_buyerOf (M : MT) (v : Int32) : mt_undoMany (ms_buyerOf M v) = mt_undoMany M := mgFF M 1 15 v (by decide)
theorem mg_undoMany_buys (M : MT) (v : Int32) : mt_undoMany (ms_buys M v) = mt_undoMany M := mgFF M 1 16 v (by decide)
theorem mg_undoMany_part (M : MT) (v : Int32) : mt_undoMany (ms_part M v) = mt_undoMany M := mgFF M 1 17 v (by decide)
theorem mg_undoMany_forced (M : MT) (v : Int32) : mt_undoMany (ms_forced M v) = mt_undoMany M := mgFF M 1 18 v (by decide)
theorem mg_undoMany_left (M : MT) (v : Nat → Int32) : mt_undoMany (ms_left M v) = mt_undoMany M := mgFA M 1 7 v
theorem mg_undoMany_prices (M : MT) (v : Nat → Int32) : mt_undoMany (ms_prices M v) = mt_undoMany M := mgFA M 1 8 v
theorem mg_undoMany_musts (M : MT) (v : Nat → Int32) : mt_undoMany (ms_musts M v) = mt_undoMany M := mgFA M 1 9 v
theorem mg_undoMany_fell (M : MT) (v : Nat → Int32) : mt_undoMany (ms_fell M v) = mt_undoMany M := mgFA M 1 10 v
theorem mg_undoMany_leastLost (M : MT) (v : Int32) : mt_undoMany (ms_leastLost M v) = mt_undoMany M := mgFF M 1 19 v (by decide)
theorem mg_undoMany_gifts (M : MT) (v : Nat → Int32) : mt_undoMany (ms_gifts M v) = mt_undoMany M := mgFA M 1 11 v
theorem mg_undoMany_bestGifts (M : MT) (v : Nat → Int32) : mt_undoMany (ms_bestGifts M v) = mt_undoMany M := mgFA M 1 12 v
theorem mg_undoMany_spelt (M : MT) (v : Nat → Int32) : mt_undoMany (ms_spelt M v) = mt_undoMany M := mgFA M 1 13 v
theorem mg_undoMany_speltMany (M : MT) (v : Int32) : mt_undoMany (ms_speltMany M v) = mt_undoMany M := mgFF M 1 20 v (by decide)
theorem me_tape (M : MT) : ms_tape M (mt_tape M) = M := meA M 3
theorem me2_tape (M : MT) (v : Nat → Int32) (h : v = mt_tape M) : ms_tape M v = M := by rw [h]; exact me_tape M
theorem mgs_tape (M : MT) (v : Nat → Int32) : mt_tape (ms_tape M v) = v := mgAs M 3 v
theorem mm_tape (M : MT) (a b : Nat → Int32) : ms_tape (ms_tape M a) b = ms_tape M b := mmA M 3 a b
theorem mg_tape_thrown (M : MT) (v : Int32) : mt_tape (ms_thrown M v) = mt_tape M := mgAF M 3 0 v
theorem mg_tape_now (M : MT) (v : Nat → Int32) : mt_tape (ms_now M v) = mt_tape M := mgAA M 3 0 v (by decide)
theorem mg_tape_aside (M : MT) (v : Nat → Int32) : mt_tape (ms_aside M v) = mt_tape M := mgAA M 3 1 v (by decide)
theorem mg_tape_undos (M : MT) (v : Nat → Int32) : mt_tape (ms_undos M v) = mt_tape M := mgAA M 3 2 v (by decide)
theorem mg_tape_undoMany (M : MT) (v : Int32) : mt_tape (ms_undoMany M v) = mt_tape M := mgAF M 3 1 v
theorem mg_tape_taped (M : MT) (v : Int32) : mt_tape (ms_taped M v) = mt_tape M := mgAF M 3 2 v
theorem mg_tape_size (M : MT) (v : Int32) : mt_tape (ms_size M v) = mt_tape M := mgAF M 3 3 v
theorem mg_tape_at (M : MT) (v : Int32) : mt_tape (ms_at M v) = mt_tape M := mgAF M 3 4 v
theorem mg_tape_token (M : MT) (v : Int32) : mt_tape (ms_token M v) = mt_tape M := mgAF M 3 5 v
theorem mg_tape_from (M : MT) (v : Int32) : mt_tape (ms_from M v) = mt_tape M := mgAF M 3 6 v
theorem mg_tape_value (M : MT) (v : Int32) : mt_tape (ms_value M v) = mt_tape M := mgAF M 3 7 v
theorem mg_tape_fault (M : MT) (v : Int32) : mt_tape (ms_fault M v) = mt_tape M := mgAF M 3 8 v
theorem mg_tape_sold (M : MT) (v : Nat → Int32) : mt_tape (ms_sold M v) = mt_tape M := mgAA M 3 4 v (by decide)
theorem mg_tape_sells (M : MT) (v : Nat → Int32) : mt_tape (ms_sells M v) = mt_tape M := mgAA M 3 5 v (by decide)
theorem mg_tape_fallen (M : MT) (v : Int32) : mt_tape (ms_fallen M v) = mt_tape M := mgAF M 3 9 v
theorem mg_tape_willFall (M : MT) (v : Int32) : mt_tape (ms_willFall M v) = mt_tape M := mgAF M 3 10 v
theorem mg_tape_rounds (M : MT) (v : Int32) : mt_tape (ms_rounds M v) = mt_tape M := mgAF M 3 11 v
theorem mg_tape_coins (M : MT) (v : Nat → Int32) : mt_tape (ms_coins M v) = mt_tape M := mgAA M 3 6 v (by decide)
theorem mg_tape_extraOf (M : MT) (v : Int32) : mt_tape (ms_extraOf M v) = mt_tape M := mgAF M 3 12 v
theorem mg_tape_extraCap (M : MT) (v : Int32) : mt_tape (ms_extraCap M v) = mt_tape M := mgAF M 3 13 v
theorem mg_tape_extraShock (M : MT) (v : Int32) : mt_tape (ms_extraShock M v) = mt_tape M := mgAF M 3 14 v
theorem mg_tape_buyerOf (M : MT) (v : Int32) : mt_tape (ms_buyerOf M v) = mt_tape M := mgAF M 3 15 v
theorem mg_tape_buys (M : MT) (v : Int32) : mt_tape (ms_buys M v) = mt_tape M := mgAF M 3 16 v
theorem mg_tape_part (M : MT) (v : Int32) : mt_tape (ms_part M v) = mt_tape M := mgAF M 3 17 v
theorem mg_tape_forced (M : MT) (v : Int32) : mt_tape (ms_forced M v) = mt_tape M := mgAF M 3 18 v
theorem mg_tape_left (M : MT) (v : Nat → Int32) : mt_tape (ms_left M v) = mt_tape M := mgAA M 3 7 v (by decide)
theorem mg_tape_prices (M : MT) (v : Nat → Int32) : mt_tape (ms_prices M v) = mt_tape M := mgAA M 3 8 v (by decide)
theorem mg_tape_musts (M : MT) (v : Nat → Int32) : mt_tape (ms_musts M v) = mt_tape M := mgAA M 3 9 v (by decide)
theorem mg_tape_fell (M : MT) (v : Nat → Int32) : mt_tape (ms_fell M v) = mt_tape M := mgAA M 3 10 v (by decide)
theorem mg_tape_leastLost (M : MT) (v : Int32) : mt_tape (ms_leastLost M v) = mt_tape M := mgAF M 3 19 v
theorem mg_tape_gifts (M : MT) (v : Nat → Int32) : mt_tape (ms_gifts M v) = mt_tape M := mgAA M 3 11 v (by decide)
theorem mg_tape_bestGifts (M : MT) (v : Nat → Int32) : mt_tape (ms_bestGifts M v) = mt_tape M := mgAA M 3 12 v (by decide)
theorem mg_tape_spelt (M : MT) (v : Nat → Int32) : mt_tape (ms_spelt M v) = mt_tape M := mgAA M 3 13 v (by decide)
theorem mg_tape_speltMany (M : MT) (v : Int32) : mt_tape (ms_speltMany M v) = mt_tape M := mgAF M 3 20 v
theorem me_taped (M : MT) : ms_taped M (mt_taped M) = M := meF M 2
theorem me2_taped (M : MT) (v : Int32) (h : v = mt_taped M) : ms_taped M v = M := by rw [h]; exact me_taped M
theorem mgs_taped (M : MT) (v : Int32) : mt_taped (ms_taped M v) = v := mgFs M 2 v
theorem mm_taped (M : MT) (a b : Int32) : ms_taped (ms_taped M a) b = ms_taped M b := mmF M 2 a b
theorem mg_taped_thrown (M : MT) (v : Int32) : mt_taped (ms_thrown M v) = mt_taped M := mgFF M 2 0 v (by decide)
theorem mg_taped_now (M : MT) (v : Nat → Int32) : mt_taped (ms_now M v) = mt_taped M := mgFA M 2 0 v
theorem mg_taped_aside (M : MT) (v : Nat → Int32) : mt_taped (ms_aside M v) = mt_taped M := mgFA M 2 1 v
theorem mg_taped_undos (M : MT) (v : Nat → Int32) : mt_taped (ms_undos M v) = mt_taped M := mgFA M 2 2 v
theorem mg_taped_undoMany (M : MT) (v : Int32) : mt_taped (ms_undoMany M v) = mt_taped M := mgFF M 2 1 v (by decide)
theorem mg_taped_tape (M : MT) (v : Nat → Int32) : mt_taped (ms_tape M v) = mt_taped M := mgFA M 2 3 v
theorem mg_taped_size (M : MT) (v : Int32) : mt_taped (ms_size M v) = mt_taped M := mgFF M 2 3 v (by decide)
theorem mg_taped_at (M : MT) (v : Int32) : mt_taped (ms_at M v) = mt_taped M := mgFF M 2 4 v (by decide)
theorem mg_taped_token (M : MT) (v : Int32) : mt_taped (ms_token M v) = mt_taped M := mgFF M 2 5 v (by decide)
theorem mg_taped_from (M : MT) (v : Int32) : mt_taped (ms_from M v) = mt_taped M := mgFF M 2 6 v (by decide)
theorem mg_taped_value (M : MT) (v : Int32) : mt_taped (ms_value M v) = mt_taped M := mgFF M 2 7 v (by decide)
theorem mg_taped_fault (M : MT) (v : Int32) : mt_taped (ms_fault M v) = mt_taped M := mgFF M 2 8 v (by decide)
theorem mg_taped_sold (M : MT) (v : Nat → Int32) : mt_taped (ms_sold M v) = mt_taped M := mgFA M 2 4 v
theorem mg_taped_sells (M : MT) (v : Nat → Int32) : mt_taped (ms_sells M v) = mt_taped M := mgFA M 2 5 v
theorem mg_taped_fallen (M : MT) (v : Int32) : mt_taped (ms_fallen M v) = mt_taped M := mgFF M 2 9 v (by decide)
theorem mg_taped_willFall (M : MT) (v : Int32) : mt_taped (ms_willFall M v) = mt_taped M := mgFF M 2 10 v (by decide)
theorem mg_taped_rounds (M : MT) (v : Int32) : mt_taped (ms_rounds M v) = mt_taped M := mgFF M 2 11 v (by decide)
theorem mg_taped_coins (M : MT) (v : Nat → Int32) : mt_taped (ms_coins M v) = mt_taped M := mgFA M 2 6 v
theorem mg_taped_extraOf (M : MT) (v : Int32) : mt_taped (ms_extraOf M v) = mt_taped M := mgFF M 2 12 v (by decide)
theorem mg_taped_extraCap (M : MT) (v : Int32) : mt_taped (ms_extraCap M v) = mt_taped M := mgFF M 2 13 v (by decide)
theorem mg_taped_extraShock (M : MT) (v : Int32) : mt_taped (ms_extraShock M v) = mt_taped M := mgFF M 2 14 v (by decide)
theorem mg_taped_buyerOf (M : MT) (v : Int32) : mt_taped (ms_buyerOf M v) = mt_taped M := mgFF M 2 15 v (by decide)
theorem mg_taped_buys (M : MT) (v : Int32) : mt_taped (ms_buys M v) = mt_taped M := mgFF M 2 16 v (by decide)
theorem mg_taped_part (M : MT) (v : Int32) : mt_taped (ms_part M v) = mt_taped M := mgFF M 2 17 v (by decide)
theorem mg_taped_forced (M : MT) (v : Int32) : mt_taped (ms_forced M v) = mt_taped M := mgFF M 2 18 v (by decide)
theorem mg_taped_left (M : MT) (v : Nat → Int32) : mt_taped (ms_left M v) = mt_taped M := mgFA M 2 7 v
theorem mg_taped_prices (M : MT) (v : Nat → Int32) : mt_taped (ms_prices M v) = mt_taped M := mgFA M 2 8 v
theorem mg_taped_musts (M : MT) (v : Nat → Int32) : mt_taped (ms_musts M v) = mt_taped M := mgFA M 2 9 v
theorem mg_taped_fell (M : MT) (v : Nat → Int32) : mt_taped (ms_fell M v) = mt_taped M := mgFA M 2 10 v
theorem mg_taped_leastLost (M : MT) (v : Int32) : mt_taped (ms_leastLost M v) = mt_taped M := mgFF M 2 19 v (by decide)
theorem mg_taped_gifts (M : MT) (v : Nat → Int32) : mt_taped (ms_gifts M v) = mt_taped M := mgFA M 2 11 v
theorem mg_taped_bestGifts (M : MT) (v : Nat → Int32) : mt_taped (ms_bestGifts M v) = mt_taped M := mgFA M 2 12 v
theorem mg_taped_spelt (M : MT) (v : Nat → Int32) : mt_taped (ms_spelt M v) = mt_taped M := mgFA M 2 13 v
theorem mg_taped_speltMany (M : MT) (v : Int32) : mt_taped (ms_speltMany M v) = mt_taped M := mgFF M 2 20 v (by decide)
theorem me_size (M : MT) : ms_size M (mt_size M) = M := meF M 3
theorem me2_size (M : MT) (v : Int32) (h : v = mt_size M) : ms_size M v = M := by rw [h]; exact me_size M
theorem mgs_size (M : MT) (v : Int32) : mt_size (ms_size M v) = v := mgFs M 3 v
theorem mm_size (M : MT) (a b : Int32) : ms_size (ms_size M a) b = ms_size M b := mmF M 3 a b
theorem mg_size_thrown (M : MT) (v : Int32) : mt_size (ms_thrown M v) = mt_size M := mgFF M 3 0 v (by decide)
theorem mg_size_now (M : MT) (v : Nat → Int32) : mt_size (ms_now M v) = mt_size M := mgFA M 3 0 v
theorem mg_size_aside (M : MT) (v : Nat → Int32) : mt_size (ms_aside M v) = mt_size M := mgFA M 3 1 v
theorem mg_size_undos (M : MT) (v : Nat → Int32) : mt_size (ms_undos M v) = mt_size M := mgFA M 3 2 v
theorem mg_size_undoMany (M : MT) (v : Int32) : mt_size (ms_undoMany M v) = mt_size M := mgFF M 3 1 v (by decide)
theorem mg_size_tape (M : MT) (v : Nat → Int32) : mt_size (ms_tape M v) = mt_size M := mgFA M 3 3 v
theorem mg_size_taped (M : MT) (v : Int32) : mt_size (ms_taped M v) = mt_size M := mgFF M 3 2 v (by decide)
theorem mg_size_at (M : MT) (v : Int32) : mt_size (ms_at M v) = mt_size M := mgFF M 3 4 v (by decide)
theorem mg_size_token (M : MT) (v : Int32) : mt_size (ms_token M v) = mt_size M := mgFF M 3 5 v (by decide)
theorem mg_size_from (M : MT) (v : Int32) : mt_size (ms_from M v) = mt_size M := mgFF M 3 6 v (by decide)
theorem mg_size_value (M : MT) (v : Int32) : mt_size (ms_value M v) = mt_size M := mgFF M 3 7 v (by decide)
theorem mg_size_fault (M : MT) (v : Int32) : mt_size (ms_fault M v) = mt_size M := mgFF M 3 8 v (by decide)
theorem mg_size_sold (M : MT) (v : Nat → Int32) : mt_size (ms_sold M v) = mt_size M := mgFA M 3 4 v
theorem mg_size_sells (M : MT) (v : Nat → Int32) : mt_size (ms_sells M v) = mt_size M := mgFA M 3 5 v
theorem mg_size_fallen (M : MT) (v : Int32) : mt_size (ms_fallen M v) = mt_size M := mgFF M 3 9 v (by decide)
theorem mg_size_willFall (M : MT) (v : Int32) : mt_size (ms_willFall M v) = mt_size M := mgFF M 3 10 v (by decide)
theorem mg_size_rounds (M : MT) (v : Int32) : mt_size (ms_rounds M v) = mt_size M := mgFF M 3 11 v (by decide)
theorem mg_size_coins (M : MT) (v : Nat → Int32) : mt_size (ms_coins M v) = mt_size M := mgFA M 3 6 v
theorem mg_size_extraOf (M : MT) (v : Int32) : mt_size (ms_extraOf M v) = mt_size M := mgFF M 3 12 v (by decide)
theorem mg_size_extraCap (M : MT) (v : Int32) : mt_size (ms_extraCap M v) = mt_size M := mgFF M 3 13 v (by decide)
theorem mg_size_extraShock (M : MT) (v : Int32) : mt_size (ms_extraShock M v) = mt_size M := mgFF M 3 14 v (by decide)
theorem mg_size_buyerOf (M : MT) (v : Int32) : mt_size (ms_buyerOf M v) = mt_size M := mgFF M 3 15 v (by decide)
theorem mg_size_buys (M : MT) (v : Int32) : mt_size (ms_buys M v) = mt_size M := mgFF M 3 16 v (by decide)
theorem mg_size_part (M : MT) (v : Int32) : mt_size (ms_part M v) = mt_size M := mgFF M 3 17 v (by decide)
theorem mg_size_forced (M : MT) (v : Int32) : mt_size (ms_forced M v) = mt_size M := mgFF M 3 18 v (by decide)
theorem mg_size_left (M : MT) (v : Nat → Int32) : mt_size (ms_left M v) = mt_size M := mgFA M 3 7 v
theorem mg_size_prices (M : MT) (v : Nat → Int32) : mt_size (ms_prices M v) = mt_size M := mgFA M 3 8 v
theorem mg_size_musts (M : MT) (v : Nat → Int32) : mt_size (ms_musts M v) = mt_size M := mgFA M 3 9 v
theorem mg_size_fell (M : MT) (v : Nat → Int32) : mt_size (ms_fell M v) = mt_size M := mgFA M 3 10 v
theorem mg_size_leastLost (M : MT) (v : Int32) : mt_size (ms_leastLost M v) = mt_size M := mgFF M 3 19 v (by decide)
theorem mg_size_gifts (M : MT) (v : Nat → Int32) : mt_size (ms_gifts M v) = mt_size M := mgFA M 3 11 v
theorem mg_size_bestGifts (M : MT) (v : Nat → Int32) : mt_size (ms_bestGifts M v) = mt_size M := mgFA M 3 12 v
theorem mg_size_spelt (M : MT) (v : Nat → Int32) : mt_size (ms_spelt M v) = mt_size M := mgFA M 3 13 v
theorem mg_size_speltMany (M : MT) (v : Int32) : mt_size (ms_speltMany M v) = mt_size M := mgFF M 3 20 v (by decide)
theorem me_at (M : MT) : ms_at M (mt_at M) = M := meF M 4
theorem me2_at (M : MT) (v : Int32) (h : v = mt_at M) : ms_at M v = M := by rw [h]; exact me_at M
theorem mgs_at (M : MT) (v : Int32) : mt_at (ms_at M v) = v := mgFs M 4 v
theorem mm_at (M : MT) (a b : Int32) : ms_at (ms_at M a) b = ms_at M b := mmF M 4 a b
theorem mg_at_thrown (M : MT) (v : Int32) : mt_at (ms_thrown M v) = mt_at M := mgFF M 4 0 v (by decide)
theorem mg_at_now (M : MT) (v : Nat → Int32) : mt_at (ms_now M v) = mt_at M := mgFA M 4 0 v
theorem mg_at_aside (M : MT) (v : Nat → Int32) : mt_at (ms_aside M v) = mt_at M := mgFA M 4 1 v
theorem mg_at_undos (M : MT) (v : Nat → Int32) : mt_at (ms_undos M v) = mt_at M := mgFA M 4 2 v
theorem mg_at_undoMany (M : MT) (v : Int32) : mt_at (ms_undoMany M v) = mt_at M := mgFF M 4 1 v (by decide)
theorem mg_at_tape (M : MT) (v : Nat → Int32) : mt_at (ms_tape M v) = mt_at M := mgFA M 4 3 v
theorem mg_at_taped (M : MT) (v : Int32) : mt_at (ms_taped M v) = mt_at M := mgFF M 4 2 v (by decide)
theorem mg_at_size (M : MT) (v : Int32) : mt_at (ms_size M v) = mt_at M := mgFF M 4 3 v (by decide)
theorem mg_at_token (M : MT) (v : Int32) : mt_at (ms_token M v) = mt_at M := mgFF M 4 5 v (by decide)
theorem mg_at_from (M : MT) (v : Int32) : mt_at (ms_from M v) = mt_at M := mgFF M 4 6 v (by decide)
theorem mg_at_value (M : MT) (v : Int32) : mt_at (ms_value M v) = mt_at M := mgFF M 4 7 v (by decide)
theorem mg_at_fault (M : MT) (v : Int32) : mt_at (ms_fault M v) = mt_at M := mgFF M 4 8 v (by decide)
theorem mg_at_sold (M : MT) (v : Nat → Int32) : mt_at (ms_sold M v) = mt_at M := mgFA M 4 4 v
theorem mg_at_sells (M : MT) (v : Nat → Int32) : mt_at (ms_sells M v) = mt_at M := mgFA M 4 5 v
theorem mg_at_fallen (M : MT) (v : Int32) : mt_at (ms_fallen M v) = mt_at M := mgFF M 4 9 v (by decide)
theorem mg_at_willFall (M : MT) (v : Int32) : mt_at (ms_willFall M v) = mt_at M := mgFF M 4 10 v (by decide)
theorem mg_at_rounds (M : MT) (v : Int32) : mt_at (ms_rounds M v) = mt_at M := mgFF M 4 11 v (by decide)
theorem mg_at_coins (M : MT) (v : Nat → Int32) : mt_at (ms_coins M v) = mt_at M := mgFA M 4 6 v
theorem mg_at_extraOf (M : MT) (v : Int32) : mt_at (ms_extraOf M v) = mt_at M := mgFF M 4 12 v (by decide)
theorem mg_at_extraCap (M : MT) (v : Int32) : mt_at (ms_extraCap M v) = mt_at M := mgFF M 4 13 v (by decide)
theorem mg_at_extraShock (M : MT) (v : Int32) : mt_at (ms_extraShock M v) = mt_at M := mgFF M 4 14 v (by decide)
theorem mg_at_buyerOf (M : MT) (v : Int32) : mt_at (ms_buyerOf M v) = mt_at M := mgFF M 4 15 v (by decide)
theorem mg_at_buys (M : MT) (v : Int32) : mt_at (ms_buys M v) = mt_at M := mgFF M 4 16 v (by decide)
theorem mg_at_part (M : MT) (v : Int32) : mt_at (ms_part M v) = mt_at M := mgFF M 4 17 v (by decide)
theorem mg_at_forced (M : MT) (v : Int32) : mt_at (ms_forced M v) = mt_at M := mgFF M 4 18 v (by decide)
theorem mg_at_left (M : MT) (v : Nat → Int32) : mt_at (ms_left M v) = mt_at M := mgFA M 4 7 v
theorem mg_at_prices (M : MT) (v : Nat → Int32) : mt_at (ms_prices M v) = mt_at M := mgFA M 4 8 v
theorem mg_at_musts (M : MT) (v : Nat → Int32) : mt_at (ms_musts M v) = mt_at M := mgFA M 4 9 v
theorem mg_at_fell (M : MT) (v : Nat → Int32) : mt_at (ms_fell M v) = mt_at M := mgFA M 4 10 v
theorem mg_at_leastLost (M : MT) (v : Int32) : mt_at (ms_leastLost M v) = mt_at M := mgFF M 4 19 v (by decide)
theorem mg_at_gifts (M : MT) (v : Nat → Int32) : mt_at (ms_gifts M v) = mt_at M := mgFA M 4 11 v
theorem mg_at_bestGifts (M : MT) (v : Nat → Int32) : mt_at (ms_bestGifts M v) = mt_at M := mgFA M 4 12 v
theorem mg_at_spelt (M : MT) (v : Nat → Int32) : mt_at (ms_spelt M v) = mt_at M := mgFA M 4 13 v
theorem mg_at_speltMany (M : MT) (v : Int32) : mt_at (ms_speltMany M v) = mt_at M := mgFF M 4 20 v (by decide)
theorem me_token (M : MT) : ms_token M (mt_token M) = M := meF M 5
theorem me2_token (M : MT) (v : Int32) (h : v = mt_token M) : ms_token M v = M := by rw [h]; exact me_token M
theorem mgs_token (M : MT) (v : Int32) : mt_token (ms_token M v) = v := mgFs M 5 v
theorem mm_token (M : MT) (a b : Int32) : ms_token (ms_token M a) b = ms_token M b := mmF M 5 a b
theorem mg_token_thrown (M : MT) (v : Int32) : mt_token (ms_thrown M v) = mt_token M := mgFF M 5 0 v (by decide)
theorem mg_token_now (M : MT) (v : Nat → Int32) : mt_token (ms_now M v) = mt_token M := mgFA M 5 0 v
theorem mg_token_aside (M : MT) (v : Nat → Int32) : mt_token (ms_aside M v) = mt_token M := mgFA M 5 1 v
theorem mg_token_undos (M : MT) (v : Nat → Int32) : mt_token (ms_undos M v) = mt_token M := mgFA M 5 2 v
theorem mg_token_undoMany (M : MT) (v : Int32) : mt_token (ms_undoMany M v) = mt_token M := mgFF M 5 1 v (by decide)
theorem mg_token_tape (M : MT) (v : Nat → Int32) : mt_token (ms_tape M v) = mt_token M := mgFA M 5 3 v
theorem mg_token_taped (M : MT) (v : Int32) : mt_token (ms_taped M v) = mt_token M := mgFF M 5 2 v (by decide)
theorem mg_token_size (M : MT) (v : Int32) : mt_token (ms_size M v) = mt_token M := mgFF M 5 3 v (by decide)
theorem mg_token_at (M : MT) (v : Int32) : mt_token (ms_at M v) = mt_token M := mgFF M 5 4 v (by decide)
theorem mg_token_from (M : MT) (v : Int32) : mt_token (ms_from M v) = mt_token M := mgFF M 5 6 v (by decide)
theorem mg_token_value (M : MT) (v : Int32) : mt_token (ms_value M v) = mt_token M := mgFF M 5 7 v (by decide)
theorem mg_token_fault (M : MT) (v : Int32) : mt_token (ms_fault M v) = mt_token M := mgFF M 5 8 v (by decide)
theorem mg_token_sold (M : MT) (v : Nat → Int32) : mt_token (ms_sold M v) = mt_token M := mgFA M 5 4 v
theorem mg_token_sells (M : MT) (v : Nat → Int32) : mt_token (ms_sells M v) = mt_token M := mgFA M 5 5 v
theorem mg_token_fallen (M : MT) (v : Int32) : mt_token (ms_fallen M v) = mt_token M := mgFF M 5 9 v (by decide)
theorem mg_token_willFall (M : MT) (v : Int32) : mt_token (ms_willFall M v) = mt_token M := mgFF M 5 10 v (by decide)
theorem mg_token_rounds (M : MT) (v : Int32) : mt_token (ms_rounds M v) = mt_token M := mgFF M 5 11 v (by decide)
theorem mg_token_coins (M : MT) (v : Nat → Int32) : mt_token (ms_coins M v) = mt_token M := mgFA M 5 6 v
theorem mg_token_extraOf (M : MT) (v : Int32) : mt_token (ms_extraOf M v) = mt_token M := mgFF M 5 12 v (by decide)
theorem mg_token_extraCap (M : MT) (v : Int32) : mt_token (ms_extraCap M v) = mt_token M := mgFF M 5 13 v (by decide)
theorem mg_token_extraShock (M : MT) (v : Int32) : mt_token (ms_extraShock M v) = mt_token M := mgFF M 5 14 v (by decide)
theorem mg_token_buyerOf (M : MT) (v : Int32) : mt_token (ms_buyerOf M v) = mt_token M := mgFF M 5 15 v (by decide)
theorem mg_token_buys (M : MT) (v : Int32) : mt_token (ms_buys M v) = mt_token M := mgFF M 5 16 v (by decide)
theorem mg_token_part (M : MT) (v : Int32) : mt_token (ms_part M v) = mt_token M := mgFF M 5 17 v (by decide)
theorem mg_token_forced (M : MT) (v : Int32) : mt_token (ms_forced M v) = mt_token M := mgFF M 5 18 v (by decide)
theorem mg_token_left (M : MT) (v : Nat → Int32) : mt_token (ms_left M v) = mt_token M := mgFA M 5 7 v
theorem mg_token_prices (M : MT) (v : Nat → Int32) : mt_token (ms_prices M v) = mt_token M := mgFA M 5 8 v
theorem mg_token_musts (M : MT) (v : Nat → Int32) : mt_token (ms_musts M v) = mt_token M := mgFA M 5 9 v
theorem mg_token_fell (M : MT) (v : Nat → Int32) : mt_token (ms_fell M v) = mt_token M := mgFA M 5 10 v
theorem mg_token_leastLost (M : MT) (v : Int32) : mt_token (ms_leastLost M v) = mt_token M := mgFF M 5 19 v (by decide)
theorem mg_token_gifts (M : MT) (v : Nat → Int32) : mt_token (ms_gifts M v) = mt_token M := mgFA M 5 11 v
theorem mg_token_bestGifts (M : MT) (v : Nat → Int32) : mt_token (ms_bestGifts M v) = mt_token M := mgFA M 5 12 v
theorem mg_token_spelt (M : MT) (v : Nat → Int32) : mt_token (ms_spelt M v) = mt_token M := mgFA M 5 13 v
theorem mg_token_speltMany (M : MT) (v : Int32) : mt_token (ms_speltMany M v) = mt_token M := mgFF M 5 20 v (by decide)
theorem me_from (M : MT) : ms_from M (mt_from M) = M := meF M 6
theorem me2_from (M : MT) (v : Int32) (h : v = mt_from M) : ms_from M v = M := by rw [h]; exact me_from M
theorem mgs_from (M : MT) (v : Int32) : mt_from (ms_from M v) = v := mgFs M 6 v
theorem mm_from (M : MT) (a b : Int32) : ms_from (ms_from M a) b = ms_from M b := mmF M 6 a b
theorem mg_from_thrown (M : MT) (v : Int32) : mt_from (ms_thrown M v) = mt_from M := mgFF M 6 0 v (by decide)
theorem mg_from_now (M : MT) (v : Nat → Int32) : mt_from (ms_now M v) = mt_from M := mgFA M 6 0 v
theorem mg_from_aside (M : MT) (v : Nat → Int32) : mt_from (ms_aside M v) = mt_from M := mgFA M 6 1 v
theorem mg_from_undos (M : MT) (v : Nat → Int32) : mt_from (ms_undos M v) = mt_from M := mgFA M 6 2 v
theorem mg_from_undoMany (M : MT) (v : Int32) : mt_from (ms_undoMany M v) = mt_from M := mgFF M 6 1 v (by decide)
theorem mg_from_tape (M : MT) (v : Nat → Int32) : mt_from (ms_tape M v) = mt_from M := mgFA M 6 3 v
theorem mg_from_taped (M : MT) (v : Int32) : mt_from (ms_taped M v) = mt_from M := mgFF M 6 2 v (by decide)
theorem mg_from_size (M : MT) (v : Int32) : mt_from (ms_size M v) = mt_from M := mgFF M 6 3 v (by decide)
theorem mg_from_at (M : MT) (v : Int32) : mt_from (ms_at M v) = mt_from M := mgFF M 6 4 v (by decide)
theorem mg_from_token (M : MT) (v : Int32) : mt_from (ms_token M v) = mt_from M := mgFF M 6 5 v (by decide)
theorem mg_from_value (M : MT) (v : Int32) : mt_from (ms_value M v) = mt_from M := mgFF M 6 7 v (by decide)
theorem mg_from_fault (M : MT) (v : Int32) : mt_from (ms_fault M v) = mt_from M := mgFF M 6 8 v (by decide)
theorem mg_from_sold (M : MT) (v : Nat → Int32) : mt_from (ms_sold M v) = mt_from M := mgFA M 6 4 v
theorem mg_from_sells (M : MT) (v : Nat → Int32) : mt_from (ms_sells M v) = mt_from M := mgFA M 6 5 v
theorem mg_from_fallen (M : MT) (v : Int32) : mt_from (ms_fallen M v) = mt_from M := mgFF M 6 9 v (by decide)
theorem mg_from_willFall (M : MT) (v : Int32) : mt_from (ms_willFall M v) = mt_from M := mgFF M 6 10 v (by decide)
theorem mg_from_rounds (M : MT) (v : Int32) : mt_from (ms_rounds M v) = mt_from M := mgFF M 6 11 v (by decide)
theorem mg_from_coins (M : MT) (v : Nat → Int32) : mt_from (ms_coins M v) = mt_from M := mgFA M 6 6 v
theorem mg_from_extraOf (M : MT) (v : Int32) : mt_from (ms_extraOf M v) = mt_from M := mgFF M 6 12 v (by decide)
theorem mg_from_extraCap (M : MT) (v : Int32) : mt_from (ms_extraCap M v) = mt_from M := mgFF M 6 13 v (by decide)
theorem mg_from_extraShock (M : MT) (v : Int32) : mt_from (ms_extraShock M v) = mt_from M := mgFF M 6 14 v (by decide)
theorem mg_from_buyerOf (M : MT) (v : Int32) : mt_from (ms_buyerOf M v) = mt_from M := mgFF M 6 15 v (by decide)
theorem mg_from_buys (M : MT) (v : Int32) : mt_from (ms_buys M v) = mt_from M := mgFF M 6 16 v (by decide)
theorem mg_from_part (M : MT) (v : Int32) : mt_from (ms_part M v) = mt_from M := mgFF M 6 17 v (by decide)
theorem mg_from_forced (M : MT) (v : Int32) : mt_from (ms_forced M v) = mt_from M := mgFF M 6 18 v (by decide)
theorem mg_from_left (M : MT) (v : Nat → Int32) : mt_from (ms_left M v) = mt_from M := mgFA M 6 7 v
theorem mg_from_prices (M : MT) (v : Nat → Int32) : mt_from (ms_prices M v) = mt_from M := mgFA M 6 8 v
theorem mg_from_musts (M : MT) (v : Nat → Int32) : mt_from (ms_musts M v) = mt_from M := mgFA M 6 9 v
theorem mg_from_fell (M : MT) (v : Nat → Int32) : mt_from (ms_fell M v) = mt_from M := mgFA M 6 10 v
theorem mg_from_leastLost (M : MT) (v : Int32) : mt_from (ms_leastLost M v) = mt_from M := mgFF M 6 19 v (by decide)
theorem mg_from_gifts (M : MT) (v : Nat → Int32) : mt_from (ms_gifts M v) = mt_from M := mgFA M 6 11 v
theorem mg_from_bestGifts (M : MT) (v : Nat → Int32) : mt_from (ms_bestGifts M v) = mt_from M := mgFA M 6 12 v
theorem mg_from_spelt (M : MT) (v : Nat → Int32) : mt_from (ms_spelt M v) = mt_from M := mgFA M 6 13 v
theorem mg_from_speltMany (M : MT) (v : Int32) : mt_from (ms_speltMany M v) = mt_from M := mgFF M 6 20 v (by decide)
theorem me_value (M : MT) : ms_value M (mt_value M) = M := meF M 7
theorem me2_value (M : MT) (v : Int32) (h : v = mt_value M) : ms_value M v = M := by rw [h]; exact me_value M
theorem mgs_value (M : MT) (v : Int32) : mt_value (ms_value M v) = v := mgFs M 7 v
theorem mm_value (M : MT) (a b : Int32) : ms_value (ms_value M a) b = ms_value M b := mmF M 7 a b
theorem mg_value_thrown (M : MT) (v : Int32) : mt_value (ms_thrown M v) = mt_value M := mgFF M 7 0 v (by decide)
theorem mg_value_now (M : MT) (v : Nat → Int32) : mt_value (ms_now M v) = mt_value M := mgFA M 7 0 v
theorem mg_value_aside (M : MT) (v : Nat → Int32) : mt_value (ms_aside M v) = mt_value M := mgFA M 7 1 v
theorem mg_value_undos (M : MT) (v : Nat → Int32) : mt_value (ms_undos M v) = mt_value M := mgFA M 7 2 v
theorem mg_value_undoMany (M : MT) (v : Int32) : mt_value (ms_undoMany M v) = mt_value M := mgFF M 7 1 v (by decide)
theorem mg_value_tape (M : MT) (v : Nat → Int32) : mt_value (ms_tape M v) = mt_value M := mgFA M 7 3 v
theorem mg_value_taped (M : MT) (v : Int32) : mt_value (ms_taped M v) = mt_value M := mgFF M 7 2 v (by decide)
theorem mg_value_size (M : MT) (v : Int32) : mt_value (ms_size M v) = mt_value M := mgFF M 7 3 v (by decide)
theorem mg_value_at (M : MT) (v : Int32) : mt_value (ms_at M v) = mt_value M := mgFF M 7 4 v (by decide)
theorem mg_value_token (M : MT) (v : Int32) : mt_value (ms_token M v) = mt_value M := mgFF M 7 5 v (by decide)
theorem mg_value_from (M : MT) (v : Int32) : mt_value (ms_from M v) = mt_value M := mgFF M 7 6 v (by decide)
theorem mg_value_fault (M : MT) (v : Int32) : mt_value (ms_fault M v) = mt_value M := mgFF M 7 8 v (by decide)
theorem mg_value_sold (M : MT) (v : Nat → Int32) : mt_value (ms_sold M v) = mt_value M := mgFA M 7 4 v
theorem mg_value_sells (M : MT) (v : Nat → Int32) : mt_value (ms_sells M v) = mt_value M := mgFA M 7 5 v
theorem mg_value_fallen (M : MT) (v : Int32) : mt_value (ms_fallen M v) = mt_value M := mgFF M 7 9 v (by decide)
theorem mg_value_willFall (M : MT) (v : Int32) : mt_value (ms_willFall M v) = mt_value M := mgFF M 7 10 v (by decide)
theorem mg_value_rounds (M : MT) (v : Int32) : mt_value (ms_rounds M v) = mt_value M := mgFF M 7 11 v (by decide)
theorem mg_value_coins (M : MT) (v : Nat → Int32) : mt_value (ms_coins M v) = mt_value M := mgFA M 7 6 v
theorem mg_value_extraOf (M : MT) (v : Int32) : mt_value (ms_extraOf M v) = mt_value M := mgFF M 7 12 v (by decide)
theorem mg_value_extraCap (M : MT) (v : Int32) : mt_value (ms_extraCap M v) = mt_value M := mgFF M 7 13 v (by decide)
theorem mg_value_extraShock (M : MT) (v : Int32) : mt_value (ms_extraShock M v) = mt_value M := mgFF M 7 14 v (by decide)
theorem mg_value_buyerOf (M : MT) (v : Int32) : mt_value (ms_buyerOf M v) = mt_value M := mgFF M 7 15 v (by decide)
theorem mg_value_buys (M : MT) (v : Int32) : mt_value (ms_buys M v) = mt_value M := mgFF M 7 16 v (by decide)
theorem mg_value_part (M : MT) (v : Int32) : mt_value (ms_part M v) = mt_value M := mgFF M 7 17 v (by decide)
theorem mg_value_forced (M : MT) (v : Int32) : mt_value (ms_forced M v) = mt_value M := mgFF M 7 18 v (by decide)
theorem mg_value_left (M : MT) (v : Nat → Int32) : mt_value (ms_left M v) = mt_value M := mgFA M 7 7 v
theorem mg_value_prices (M : MT) (v : Nat → Int32) : mt_value (ms_prices M v) = mt_value M := mgFA M 7 8 v
theorem mg_value_musts (M : MT) (v : Nat → Int32) : mt_value (ms_musts M v) = mt_value M := mgFA M 7 9 v
theorem mg_value_fell (M : MT) (v : Nat → Int32) : mt_value (ms_fell M v) = mt_value M := mgFA M 7 10 v
theorem mg_value_leastLost (M : MT) (v : Int32) : mt_value (ms_leastLost M v) = mt_value M := mgFF M 7 19 v (by decide)
theorem mg_value_gifts (M : MT) (v : Nat → Int32) : mt_value (ms_gifts M v) = mt_value M := mgFA M 7 11 v
theorem mg_value_bestGifts (M : MT) (v : Nat → Int32) : mt_value (ms_bestGifts M v) = mt_value M := mgFA M 7 12 v
theorem mg_value_spelt (M : MT) (v : Nat → Int32) : mt_value (ms_spelt M v) = mt_value M := mgFA M 7 13 v
theorem mg_value_speltMany (M : MT) (v : Int32) : mt_value (ms_speltMany M v) = mt_value M := mgFF M 7 20 v (by decide)
theorem me_fault (M : MT) : ms_fault M (mt_fault M) = M := meF M 8
theorem me2_fault (M : MT) (v : Int32) (h : v = mt_fault M) : ms_fault M v = M := by rw [h]; exact me_fault M
theorem mgs_fault (M : MT) (v : Int32) : mt_fault (ms_fault M v) = v := mgFs M 8 v
theorem mm_fault (M : MT) (a b : Int32) : ms_fault (ms_fault M a) b = ms_fault M b := mmF M 8 a b
theorem mg_fault_thrown (M : MT) (v : Int32) : mt_fault (ms_thrown M v) = mt_fault M := mgFF M 8 0 v (by decide)
theorem mg_fault_now (M : MT) (v : Nat → Int32) : mt_fault (ms_now M v) = mt_fault M := mgFA M 8 0 v
theorem mg_fault_aside (M : MT) (v : Nat → Int32) : mt_fault (ms_aside M v) = mt_fault M := mgFA M 8 1 v
theorem mg_fault_undos (M : MT) (v : Nat → Int32) : mt_fault (ms_undos M v) = mt_fault M := mgFA M 8 2 v
theorem mg_fault_undoMany (M : MT) (v : Int32) : mt_fault (ms_undoMany M v) = mt_fault M := mgFF M 8 1 v (by decide)
theorem mg_fault_tape (M : MT) (v : Nat → Int32) : mt_fault (ms_tape M v) = mt_fault M := mgFA M 8 3 v
theorem mg_fault_taped (M : MT) (v : Int32) : mt_fault (ms_taped M v) = mt_fault M := mgFF M 8 2 v (by decide)
theorem mg_fault_size (M : MT) (v : Int32) : mt_fault (ms_size M v) = mt_fault M := mgFF M 8 3 v (by decide)
theorem mg_fault_at (M : MT) (v : Int32) : mt_fault (ms_at M v) = mt_fault M := mgFF M 8 4 v (by decide)
theorem mg_fault_token (M : MT) (v : Int32) : mt_fault (ms_token M v) = mt_fault M := mgFF M 8 5 v (by decide)
theorem mg_fault_from (M : MT) (v : Int32) : mt_fault (ms_from M v) = mt_fault M := mgFF M 8 6 v (by decide)
theorem mg_fault_value (M : MT) (v : Int32) : mt_fault (ms_value M v) = mt_fault M := mgFF M 8 7 v (by decide)
theorem mg_fault_sold (M : MT) (v : Nat → Int32) : mt_fault (ms_sold M v) = mt_fault M := mgFA M 8 4 v
theorem mg_fault_sells (M : MT) (v : Nat → Int32) : mt_fault (ms_sells M v) = mt_fault M := mgFA M 8 5 v
theorem mg_fault_fallen (M : MT) (v : Int32) : mt_fault (ms_fallen M v) = mt_fault M := mgFF M 8 9 v (by decide)
theorem mg_fault_willFall (M : MT) (v : Int32) : mt_fault (ms_willFall M v) = mt_fault M := mgFF M 8 10 v (by decide)
theorem mg_fault_rounds (M : MT) (v : Int32) : mt_fault (ms_rounds M v) = mt_fault M := mgFF M 8 11 v (by decide)
theorem mg_fault_coins (M : MT) (v : Nat → Int32) : mt_fault (ms_coins M v) = mt_fault M := mgFA M 8 6 v
theorem mg_fault_extraOf (M : MT) (v : Int32) : mt_fault (ms_extraOf M v) = mt_fault M := mgFF M 8 12 v (by decide)
theorem mg_fault_extraCap (M : MT) (v : Int32) : mt_fault (ms_extraCap M v) = mt_fault M := mgFF M 8 13 v (by decide)
theorem mg_fault_extraShock (M : MT) (v : Int32) : mt_fault (ms_extraShock M v) = mt_fault M := mgFF M 8 14 v (by decide)
theorem mg_fault_buyerOf (M : MT) (v : Int32) : mt_fault (ms_buyerOf M v) = mt_fault M := mgFF M 8 15 v (by decide)
theorem mg_fault_buys (M : MT) (v : Int32) : mt_fault (ms_buys M v) = mt_fault M := mgFF M 8 16 v (by decide)
theorem mg_fault_part (M : MT) (v : Int32) : mt_fault (ms_part M v) = mt_fault M := mgFF M 8 17 v (by decide)
theorem mg_fault_forced (M : MT) (v : Int32) : mt_fault (ms_forced M v) = mt_fault M := mgFF M 8 18 v (by decide)
theorem mg_fault_left (M : MT) (v : Nat → Int32) : mt_fault (ms_left M v) = mt_fault M := mgFA M 8 7 v
theorem mg_fault_prices (M : MT) (v : Nat → Int32) : mt_fault (ms_prices M v) = mt_fault M := mgFA M 8 8 v
theorem mg_fault_musts (M : MT) (v : Nat → Int32) : mt_fault (ms_musts M v) = mt_fault M := mgFA M 8 9 v
theorem mg_fault_fell (M : MT) (v : Nat → Int32) : mt_fault (ms_fell M v) = mt_fault M := mgFA M 8 10 v
theorem mg_fault_leastLost (M : MT) (v : Int32) : mt_fault (ms_leastLost M v) = mt_fault M := mgFF M 8 19 v (by decide)
theorem mg_fault_gifts (M : MT) (v : Nat → Int32) : mt_fault (ms_gifts M v) = mt_fault M := mgFA M 8 11 v
theorem mg_fault_bestGifts (M : MT) (v : Nat → Int32) : mt_fault (ms_bestGifts M v) = mt_fault M := mgFA M 8 12 v
theorem mg_fault_spelt (M : MT) (v : Nat → Int32) : mt_fault (ms_spelt M v) = mt_fault M := mgFA M 8 13 v
theorem mg_fault_speltMany (M : MT) (v : Int32) : mt_fault (ms_speltMany M v) = mt_fault M := mgFF M 8 20 v (by decide)
theorem me_sold (M : MT) : ms_sold M (mt_sold M) = M := meA M 4
theorem me2_sold (M : MT) (v : Nat → Int32) (h : v = mt_sold M) : ms_sold M v = M := by rw [h]; exact me_sold M
theorem mgs_sold (M : MT) (v : Nat → Int32) : mt_sold (ms_sold M v) = v := mgAs M 4 v
theorem mm_sold (M : MT) (a b : Nat → Int32) : ms_sold (ms_sold M a) b = ms_sold M b := mmA M 4 a b
theorem mg_sold_thrown (M : MT) (v : Int32) : mt_sold (ms_thrown M v) = mt_sold M := mgAF M 4 0 v
theorem mg_sold_now (M : MT) (v : Nat → Int32) : mt_sold (ms_now M v) = mt_sold M := mgAA M 4 0 v (by decide)
theorem mg_sold_aside (M : MT) (v : Nat → Int32) : mt_sold (ms_aside M v) = mt_sold M := mgAA M 4 1 v (by decide)
theorem mg_sold_undos (M : MT) (v : Nat → Int32) : mt_sold (ms_undos M v) = mt_sold M := mgAA M 4 2 v (by decide)
theorem mg_sold_undoMany (M : MT) (v : Int32) : mt_sold (ms_undoMany M v) = mt_sold M := mgAF M 4 1 v
theorem mg_sold_tape (M : MT) (v : Nat → Int32) : mt_sold (ms_tape M v) = mt_sold M := mgAA M 4 3 v (by decide)
theorem mg_sold_taped (M : MT) (v : Int32) : mt_sold (ms_taped M v) = mt_sold M := mgAF M 4 2 v
theorem mg_sold_size (M : MT) (v : Int32) : mt_sold (ms_size M v) = mt_sold M := mgAF M 4 3 v
theorem mg_sold_at (M : MT) (v : Int32) : mt_sold (ms_at M v) = mt_sold M := mgAF M 4 4 v
theorem mg_sold_token (M : MT) (v : Int32) : mt_sold (ms_token M v) = mt_sold M := mgAF M 4 5 v
theorem mg_sold_from (M : MT) (v : Int32) : mt_sold (ms_from M v) = mt_sold M := mgAF M 4 6 v
theorem mg_sold_value (M : MT) (v : Int32) : mt_sold (ms_value M v) = mt_sold M := mgAF M 4 7 v
theorem mg_sold_fault (M : MT) (v : Int32) : mt_sold (ms_fault M v) = mt_sold M := mgAF M 4 8 v
theorem mg_sold_sells (M : MT) (v : Nat → Int32) : mt_sold (ms_sells M v) = mt_sold M := mgAA M 4 5 v (by decide)
theorem mg_sold_fallen (M : MT) (v : Int32) : mt_sold (ms_fallen M v) = mt_sold M := mgAF M 4 9 v
theorem mg_sold_willFall (M : MT) (v : Int32) : mt_sold (ms_willFall M v) = mt_sold M := mgAF M 4 10 v
theorem mg_sold_rounds (M : MT) (v : Int32) : mt_sold (ms_rounds M v) = mt_sold M := mgAF M 4 11 v
theorem mg_sold_coins (M : MT) (v : Nat → Int32) : mt_sold (ms_coins M v) = mt_sold M := mgAA M 4 6 v (by decide)
theorem mg_sold_extraOf (M : MT) (v : Int32) : mt_sold (ms_extraOf M v) = mt_sold M := mgAF M 4 12 v
theorem mg_sold_extraCap (M : MT) (v : Int32) : mt_sold (ms_extraCap M v) = mt_sold M := mgAF M 4 13 v
theorem mg_sold_extraShock (M : MT) (v : Int32) : mt_sold (ms_extraShock M v) = mt_sold M := mgAF M 4 14 v
theorem mg_sold_buyerOf (M : MT) (v : Int32) : mt_sold (ms_buyerOf M v) = mt_sold M := mgAF M 4 15 v
theorem mg_sold_buys (M : MT) (v : Int32) : mt_sold (ms_buys M v) = mt_sold M := mgAF M 4 16 v
theorem mg_sold_part (M : MT) (v : Int32) : mt_sold (ms_part M v) = mt_sold M := mgAF M 4 17 v
theorem mg_sold_forced (M : MT) (v : Int32) : mt_sold (ms_forced M v) = mt_sold M := mgAF M 4 18 v
theorem mg_sold_left (M : MT) (v : Nat → Int32) : mt_sold (ms_left M v) = mt_sold M := mgAA M 4 7 v (by decide)
theorem mg_sold_prices (M : MT) (v : Nat → Int32) : mt_sold (ms_prices M v) = mt_sold M := mgAA M 4 8 v (by decide)
theorem mg_sold_musts (M : MT) (v : Nat → Int32) : mt_sold (ms_musts M v) = mt_sold M := mgAA M 4 9 v (by decide)
theorem mg_sold_fell (M : MT) (v : Nat → Int32) : mt_sold (ms_fell M v) = mt_sold M := mgAA M 4 10 v (by decide)
theorem mg_sold_leastLost (M : MT) (v : Int32) : mt_sold (ms_leastLost M v) = mt_sold M := mgAF M 4 19 v
theorem mg_sold_gifts (M : MT) (v : Nat → Int32) : mt_sold (ms_gifts M v) = mt_sold M := mgAA M 4 11 v (by decide)
theorem mg_sold_bestGifts (M : MT) (v : Nat → Int32) : mt_sold (ms_bestGifts M v) = mt_sold M := mgAA M 4 12 v (by decide)
theorem mg_sold_spelt (M : MT) (v : Nat → Int32) : mt_sold (ms_spelt M v) = mt_sold M := mgAA M 4 13 v (by decide)
theorem mg_sold_speltMany (M : MT) (v : Int32) : mt_sold (ms_speltMany M v) = mt_sold M := mgAF M 4 20 v
theorem me_sells (M : MT) : ms_sells M (mt_sells M) = M := meA M 5
theorem me2_sells (M : MT) (v : Nat → Int32) (h : v = mt_sells M) : ms_sells M v = M := by rw [h]; exact me_sells M
theorem mgs_sells (M : MT) (v : Nat → Int32) : mt_sells (ms_sells M v) = v := mgAs M 5 v
theorem mm_sells (M : MT) (a b : Nat → Int32) : ms_sells (ms_sells M a) b = ms_sells M b := mmA M 5 a b
theorem mg_sells_thrown (M : MT) (v : Int32) : mt_sells (ms_thrown M v) = mt_sells M := mgAF M 5 0 v
theorem mg_sells_now (M : MT) (v : Nat → Int32) : mt_sells (ms_now M v) = mt_sells M := mgAA M 5 0 v (by decide)
theorem mg_sells_aside (M : MT) (v : Nat → Int32) : mt_sells (ms_aside M v) = mt_sells M := mgAA M 5 1 v (by decide)
theorem mg_sells_undos (M : MT) (v : Nat → Int32) : mt_sells (ms_undos M v) = mt_sells M := mgAA M 5 2 v (by decide)
theorem mg_sells_undoMany (M : MT) (v : Int32) : mt_sells (ms_undoMany M v) = mt_sells M := mgAF M 5 1 v
theorem mg_sells_tape (M : MT) (v : Nat → Int32) : mt_sells (ms_tape M v) = mt_sells M := mgAA M 5 3 v (by decide)
theorem mg_sells_taped (M : MT) (v : Int32) : mt_sells (ms_taped M v) = mt_sells M := mgAF M 5 2 v
theorem mg_sells_size (M : MT) (v : Int32) : mt_sells (ms_size M v) = mt_sells M := mgAF M 5 3 v
theorem mg_sells_at (M : MT) (v : Int32) : mt_sells (ms_at M v) = mt_sells M := mgAF M 5 4 v
theorem mg_sells_token (M : MT) (v : Int32) : mt_sells (ms_token M v) = mt_sells M := mgAF M 5 5 v
theorem mg_sells_from (M : MT) (v : Int32) : mt_sells (ms_from M v) = mt_sells M := mgAF M 5 6 v
theorem mg_sells_value (M : MT) (v : Int32) : mt_sells (ms_value M v) = mt_sells M := mgAF M 5 7 v
theorem mg_sells_fault (M : MT) (v : Int32) : mt_sells (ms_fault M v) = mt_sells M := mgAF M 5 8 v
theorem mg_sells_sold (M : MT) (v : Nat → Int32) : mt_sells (ms_sold M v) = mt_sells M := mgAA M 5 4 v (by decide)
theorem mg_sells_fallen (M : MT) (v : Int32) : mt_sells (ms_fallen M v) = mt_sells M := mgAF M 5 9 v
theorem mg_sells_willFall (M : MT) (v : Int32) : mt_sells (ms_willFall M v) = mt_sells M := mgAF M 5 10 v
theorem mg_sells_rounds (M : MT) (v : Int32) : mt_sells (ms_rounds M v) = mt_sells M := mgAF M 5 11 v
theorem mg_sells_coins (M : MT) (v : Nat → Int32) : mt_sells (ms_coins M v) = mt_sells M := mgAA M 5 6 v (by decide)
theorem mg_sells_extraOf (M : MT) (v : Int32) : mt_sells (ms_extraOf M v) = mt_sells M := mgAF M 5 12 v
theorem mg_sells_extraCap (M : MT) (v : Int32) : mt_sells (ms_extraCap M v) = mt_sells M := mgAF M 5 13 v
theorem mg_sells_extraShock (M : MT) (v : Int32) : mt_sells (ms_extraShock M v) = mt_sells M := mgAF M 5 14 v
theorem mg_sells_buyerOf (M : MT) (v : Int32) : mt_sells (ms_buyerOf M v) = mt_sells M := mgAF M 5 15 v
theorem mg_sells_buys (M : MT) (v : Int32) : mt_sells (ms_buys M v) = mt_sells M := mgAF M 5 16 v
theorem mg_sells_part (M : MT) (v : Int32) : mt_sells (ms_part M v) = mt_sells M := mgAF M 5 17 v
theorem mg_sells_forced (M : MT) (v : Int32) : mt_sells (ms_forced M v) = mt_sells M := mgAF M 5 18 v
theorem mg_sells_left (M : MT) (v : Nat → Int32) : mt_sells (ms_left M v) = mt_sells M := mgAA M 5 7 v (by decide)
theorem mg_sells_prices (M : MT) (v : Nat → Int32) : mt_sells (ms_prices M v) = mt_sells M := mgAA M 5 8 v (by decide)
theorem mg_sells_musts (M : MT) (v : Nat → Int32) : mt_sells (ms_musts M v) = mt_sells M := mgAA M 5 9 v (by decide)
theorem mg_sells_fell (M : MT) (v : Nat → Int32) : mt_sells (ms_fell M v) = mt_sells M := mgAA M 5 10 v (by decide)
theorem mg_sells_leastLost (M : MT) (v : Int32) : mt_sells (ms_leastLost M v) = mt_sells M := mgAF M 5 19 v
theorem mg_sells_gifts (M : MT) (v : Nat → Int32) : mt_sells (ms_gifts M v) = mt_sells M := mgAA M 5 11 v (by decide)
theorem mg_sells_bestGifts (M : MT) (v : Nat → Int32) : mt_sells (ms_bestGifts M v) = mt_sells M := mgAA M 5 12 v (by decide)
theorem mg_sells_spelt (M : MT) (v : Nat → Int32) : mt_sells (ms_spelt M v) = mt_sells M := mgAA M 5 13 v (by decide)
theorem mg_sells_speltMany (M : MT) (v : Int32) : mt_sells (ms_speltMany M v) = mt_sells M := mgAF M 5 20 v
theorem me_fallen (M : MT) : ms_fallen M (mt_fallen M) = M := meF M 9
theorem me2_fallen (M : MT) (v : Int32) (h : v = mt_fallen M) : ms_fallen M v = M := by rw [h]; exact me_fallen M
theorem mgs_fallen (M : MT) (v : Int32) : mt_fallen (ms_fallen M v) = v := mgFs M 9 v
theorem mm_fallen (M : MT) (a b : Int32) : ms_fallen (ms_fallen M a) b = ms_fallen M b := mmF M 9 a b
theorem mg_fallen_thrown (M : MT) (v : Int32) : mt_fallen (ms_thrown M v) = mt_fallen M := mgFF M 9 0 v (by decide)
theorem mg_fallen_now (M : MT) (v : Nat → Int32) : mt_fallen (ms_now M v) = mt_fallen M := mgFA M 9 0 v
theorem mg_fallen_aside (M : MT) (v : Nat → Int32) : mt_fallen (ms_aside M v) = mt_fallen M := mgFA M 9 1 v
theorem mg_fallen_undos (M : MT) (v : Nat → Int32) : mt_fallen (ms_undos M v) = mt_fallen M := mgFA M 9 2 v
theorem mg_fallen_undoMany (M : MT) (v : Int32) : mt_fallen (ms_undoMany M v) = mt_fallen M := mgFF M 9 1 v (by decide)
theorem mg_fallen_tape (M : MT) (v : Nat → Int32) : mt_fallen (ms_tape M v) = mt_fallen M := mgFA M 9 3 v
theorem mg_fallen_taped (M : MT) (v : Int32) : mt_fallen (ms_taped M v) = mt_fallen M := mgFF M 9 2 v (by decide)
theorem mg_fallen_size (M : MT) (v : Int32) : mt_fallen (ms_size M v) = mt_fallen M := mgFF M 9 3 v (by decide)
theorem mg_fallen_at (M : MT) (v : Int32) : mt_fallen (ms_at M v) = mt_fallen M := mgFF M 9 4 v (by decide)
theorem mg_fallen_token (M : MT) (v : Int32) : mt_fallen (ms_token M v) = mt_fallen M := mgFF M 9 5 v (by decide)
theorem mg_fallen_from (M : MT) (v : Int32) : mt_fallen (ms_from M v) = mt_fallen M := mgFF M 9 6 v (by decide)
theorem mg_fallen_value (M : MT) (v : Int32) : mt_fallen (ms_value M v) = mt_fallen M := mgFF M 9 7 v (by decide)
theorem mg_fallen_fault (M : MT) (v : Int32) : mt_fallen (ms_fault M v) = mt_fallen M := mgFF M 9 8 v (by decide)
theorem mg_fallen_sold (M : MT) (v : Nat → Int32) : mt_fallen (ms_sold M v) = mt_fallen M := mgFA M 9 4 v
theorem mg_fallen_sells (M : MT) (v : Nat → Int32) : mt_fallen (ms_sells M v) = mt_fallen M := mgFA M 9 5 v
theorem mg_fallen_willFall (M : MT) (v : Int32) : mt_fallen (ms_willFall M v) = mt_fallen M := mgFF M 9 10 v (by decide)
theorem mg_fallen_rounds (M : MT) (v : Int32) : mt_fallen (ms_rounds M v) = mt_fallen M := mgFF M 9 11 v (by decide)
theorem mg_fallen_coins (M : MT) (v : Nat → Int32) : mt_fallen (ms_coins M v) = mt_fallen M := mgFA M 9 6 v
theorem mg_fallen_extraOf (M : MT) (v : Int32) : mt_fallen (ms_extraOf M v) = mt_fallen M := mgFF M 9 12 v (by decide)
theorem mg_fallen_extraCap (M : MT) (v : Int32) : mt_fallen (ms_extraCap M v) = mt_fallen M := mgFF M 9 13 v (by decide)
theorem mg_fallen_extraShock (M : MT) (v : Int32) : mt_fallen (ms_extraShock M v) = mt_fallen M := mgFF M 9 14 v (by decide)
theorem mg_fallen_buyerOf (M : MT) (v : Int32) : mt_fallen (ms_buyerOf M v) = mt_fallen M := mgFF M 9 15 v (by decide)
theorem mg_fallen_buys (M : MT) (v : Int32) : mt_fallen (ms_buys M v) = mt_fallen M := mgFF M 9 16 v (by decide)
theorem mg_fallen_part (M : MT) (v : Int32) : mt_fallen (ms_part M v) = mt_fallen M := mgFF M 9 17 v (by decide)
theorem mg_fallen_forced (M : MT) (v : Int32) : mt_fallen (ms_forced M v) = mt_fallen M := mgFF M 9 18 v (by decide)
theorem mg_fallen_left (M : MT) (v : Nat → Int32) : mt_fallen (ms_left M v) = mt_fallen M := mgFA M 9 7 v
theorem mg_fallen_prices (M : MT) (v : Nat → Int32) : mt_fallen (ms_prices M v) = mt_fallen M := mgFA M 9 8 v
theorem mg_fallen_musts (M : MT) (v : Nat → Int32) : mt_fallen (ms_musts M v) = mt_fallen M := mgFA M 9 9 v
theorem mg_fallen_fell (M : MT) (v : Nat → Int32) : mt_fallen (ms_fell M v) = mt_fallen M := mgFA M 9 10 v
theorem mg_fallen_leastLost (M : MT) (v : Int32) : mt_fallen (ms_leastLost M v) = mt_fallen M := mgFF M 9 19 v (by decide)
theorem mg_fallen_gifts (M : MT) (v : Nat → Int32) : mt_fallen (ms_gifts M v) = mt_fallen M := mgFA M 9 11 v
theorem mg_fallen_bestGifts (M : MT) (v : Nat → Int32) : mt_fallen (ms_bestGifts M v) = mt_fallen M := mgFA M 9 12 v
theorem mg_fallen_spelt (M : MT) (v : Nat → Int32) : mt_fallen (ms_spelt M v) = mt_fallen M := mgFA M 9 13 v
theorem mg_fallen_speltMany (M : MT) (v : Int32) : mt_fallen (ms_speltMany M v) = mt_fallen M := mgFF M 9 20 v (by decide)
theorem me_willFall (M : MT) : ms_willFall M (mt_willFall M) = M := meF M 10
theorem me2_willFall (M : MT) (v : Int32) (h : v = mt_willFall M) : ms_willFall M v = M := by rw [h]; exact me_willFall M
theorem mgs_willFall (M : MT) (v : Int32) : mt_willFall (ms_willFall M v) = v := mgFs M 10 v
theorem mm_willFall (M : MT) (a b : Int32) : ms_willFall (ms_willFall M a) b = ms_willFall M b := mmF M 10 a b
theorem mg_willFall_thrown (M : MT) (v : Int32) : mt_willFall (ms_thrown M v) = mt_willFall M := mgFF M 10 0 v (by decide)
theorem mg_willFall_now (M : MT) (v : Nat → Int32) : mt_willFall (ms_now M v) = mt_willFall M := mgFA M 10 0 v
theorem mg_willFall_aside (M : MT) (v : Nat → Int32) : mt_willFall (ms_aside M v) = mt_willFall M := mgFA M 10 1 v
theorem mg_willFall_undos (M : MT) (v : Nat → Int32) : mt_willFall (ms_undos M v) = mt_willFall M := mgFA M 10 2 v
theorem mg_willFall_undoMany (M : MT) (v : Int32) : mt_willFall (ms_undoMany M v) = mt_willFall M := mgFF M 10 1 v (by decide)
theorem mg_willFall_tape (M : MT) (v : Nat → Int32) : mt_willFall (ms_tape M v) = mt_willFall M := mgFA M 10 3 v
theorem mg_willFall_taped (M : MT) (v : Int32) : mt_willFall (ms_taped M v) = mt_willFall M := mgFF M 10 2 v (by decide)
theorem mg_willFall_size (M : MT) (v : Int32) : mt_willFall (ms_size M v) = mt_willFall M := mgFF M 10 3 v (by decide)
theorem mg_willFall_at (M : MT) (v : Int32) : mt_willFall (ms_at M v) = mt_willFall M := mgFF M 10 4 v (by decide)
theorem mg_willFall_token (M : MT) (v : Int32) : mt_willFall (ms_token M v) = mt_willFall M := mgFF M 10 5 v (by decide)
theorem mg_willFall_from (M : MT) (v : Int32) : mt_willFall (ms_from M v) = mt_willFall M := mgFF M 10 6 v (by decide)
theorem mg_willFall_value (M : MT) (v : Int32) : mt_willFall (ms_value M v) = mt_willFall M := mgFF M 10 7 v (by decide)
theorem mg_willFall_fault (M : MT) (v : Int32) : mt_willFall (ms_fault M v) = mt_willFall M := mgFF M 10 8 v (by decide)
theorem mg_willFall_sold (M : MT) (v : Nat → Int32) : mt_willFall (ms_sold M v) = mt_willFall M := mgFA M 10 4 v
theorem mg_willFall_sells (M : MT) (v : Nat → Int32) : mt_willFall (ms_sells M v) = mt_willFall M := mgFA M 10 5 v
theorem mg_willFall_fallen (M : MT) (v : Int32) : mt_willFall (ms_fallen M v) = mt_willFall M := mgFF M 10 9 v (by decide)
theorem mg_willFall_rounds (M : MT) (v : Int32) : mt_willFall (ms_rounds M v) = mt_willFall M := mgFF M 10 11 v (by decide)
theorem mg_willFall_coins (M : MT) (v : Nat → Int32) : mt_willFall (ms_coins M v) = mt_willFall M := mgFA M 10 6 v
theorem mg_willFall_extraOf (M : MT) (v : Int32) : mt_willFall (ms_extraOf M v) = mt_willFall M := mgFF M 10 12 v (by decide)
theorem mg_willFall_extraCap (M : MT) (v : Int32) : mt_willFall (ms_extraCap M v) = mt_willFall M := mgFF M 10 13 v (by decide)
theorem mg_willFall_extraShock (M : MT) (v : Int32) : mt_willFall (ms_extraShock M v) = mt_willFall M := mgFF M 10 14 v (by decide)
theorem mg_willFall_buyerOf (M : MT) (v : Int32) : mt_willFall (ms_buyerOf M v) = mt_willFall M := mgFF M 10 15 v (by decide)
theorem mg_willFall_buys (M : MT) (v : Int32) : mt_willFall (ms_buys M v) = mt_willFall M := mgFF M 10 16 v (by decide)
theorem mg_willFall_part (M : MT) (v : Int32) : mt_willFall (ms_part M v) = mt_willFall M := mgFF M 10 17 v (by decide)
theorem mg_willFall_forced (M : MT) (v : Int32) : mt_willFall (ms_forced M v) = mt_willFall M := mgFF M 10 18 v (by decide)
theorem mg_willFall_left (M : MT) (v : Nat → Int32) : mt_willFall (ms_left M v) = mt_willFall M := mgFA M 10 7 v
theorem mg_willFall_prices (M : MT) (v : Nat → Int32) : mt_willFall (ms_prices M v) = mt_willFall M := mgFA M 10 8 v
theorem mg_willFall_musts (M : MT) (v : Nat → Int32) : mt_willFall (ms_musts M v) = mt_willFall M := mgFA M 10 9 v
theorem mg_willFall_fell (M : MT) (v : Nat → Int32) : mt_willFall (ms_fell M v) = mt_willFall M := mgFA M 10 10 v
theorem mg_willFall_leastLost (M : MT) (v : Int32) : mt_willFall (ms_leastLost M v) = mt_willFall M := mgFF M 10 19 v (by decide)
theorem mg_willFall_gifts (M : MT) (v : Nat → Int32) : mt_willFall (ms_gifts M v) = mt_willFall M := mgFA M 10 11 v
theorem mg_willFall_bestGifts (M : MT) (v : Nat → Int32) : mt_willFall (ms_bestGifts M v) = mt_willFall M := mgFA M 10 12 v
theorem mg_willFall_spelt (M : MT) (v : Nat → Int32) : mt_willFall (ms_spelt M v) = mt_willFall M := mgFA M 10 13 v
theorem mg_willFall_speltMany (M : MT) (v : Int32) : mt_willFall (ms_speltMany M v) = mt_willFall M := mgFF M 10 20 v (by decide)
theorem me_rounds (M : MT) : ms_rounds M (mt_rounds M) = M := meF M 11
theorem me2_rounds (M : MT) (v : Int32) (h : v = mt_rounds M) : ms_rounds M v = M := by rw [h]; exact me_rounds M
theorem mgs_rounds (M : MT) (v : Int32) : mt_rounds (ms_rounds M v) = v := mgFs M 11 v
theorem mm_rounds (M : MT) (a b : Int32) : ms_rounds (ms_rounds M a) b = ms_rounds M b := mmF M 11 a b
theorem mg_rounds_thrown (M : MT) (v : Int32) : mt_rounds (ms_thrown M v) = mt_rounds M := mgFF M 11 0 v (by decide)
theorem mg_rounds_now (M : MT) (v : Nat → Int32) : mt_rounds (ms_now M v) = mt_rounds M := mgFA M 11 0 v
theorem mg_rounds_aside (M : MT) (v : Nat → Int32) : mt_rounds (ms_aside M v) = mt_rounds M := mgFA M 11 1 v
theorem mg_rounds_undos (M : MT) (v : Nat → Int32) : mt_rounds (ms_undos M v) = mt_rounds M := mgFA M 11 2 v
theorem mg_rounds_undoMany (M : MT) (v : Int32) : mt_rounds (ms_undoMany M v) = mt_rounds M := mgFF M 11 1 v (by decide)
theorem mg_rounds_tape (M : MT) (v : Nat → Int32) : mt_rounds (ms_tape M v) = mt_rounds M := mgFA M 11 3 v
theorem mg_rounds_taped (M : MT) (v : Int32) : mt_rounds (ms_taped M v) = mt_rounds M := mgFF M 11 2 v (by decide)
theorem mg_rounds_size (M : MT) (v : Int32) : mt_rounds (ms_size M v) = mt_rounds M := mgFF M 11 3 v (by decide)
theorem mg_rounds_at (M : MT) (v : Int32) : mt_rounds (ms_at M v) = mt_rounds M := mgFF M 11 4 v (by decide)
theorem mg_rounds_token (M : MT) (v : Int32) : mt_rounds (ms_token M v) = mt_rounds M := mgFF M 11 5 v (by decide)
theorem mg_rounds_from (M : MT) (v : Int32) : mt_rounds (ms_from M v) = mt_rounds M := mgFF M 11 6 v (by decide)
theorem mg_rounds_value (M : MT) (v : Int32) : mt_rounds (ms_value M v) = mt_rounds M := mgFF M 11 7 v (by decide)
theorem mg_rounds_fault (M : MT) (v : Int32) : mt_rounds (ms_fault M v) = mt_rounds M := mgFF M 11 8 v (by decide)
theorem mg_rounds_sold (M : MT) (v : Nat → Int32) : mt_rounds (ms_sold M v) = mt_rounds M := mgFA M 11 4 v
theorem mg_rounds_sells (M : MT) (v : Nat → Int32) : mt_rounds (ms_sells M v) = mt_rounds M := mgFA M 11 5 v
theorem mg_rounds_fallen (M : MT) (v : Int32) : mt_rounds (ms_fallen M v) = mt_rounds M := mgFF M 11 9 v (by decide)
theorem mg_rounds_willFall (M : MT) (v : Int32) : mt_rounds (ms_willFall M v) = mt_rounds M := mgFF M 11 10 v (by decide)
theorem mg_rounds_coins (M : MT) (v : Nat → Int32) : mt_rounds (ms_coins M v) = mt_rounds M := mgFA M 11 6 v
theorem mg_rounds_extraOf (M : MT) (v : Int32) : mt_rounds (ms_extraOf M v) = mt_rounds M := mgFF M 11 12 v (by decide)
theorem mg_rounds_extraCap (M : MT) (v : Int32) : mt_rounds (ms_extraCap M v) = mt_rounds M := mgFF M 11 13 v (by decide)
theorem mg_rounds_extraShock (M : MT) (v : Int32) : mt_rounds (ms_extraShock M v) = mt_rounds M := mgFF M 11 14 v (by decide)
theorem mg_rounds_buyerOf (M : MT) (v : Int32) : mt_rounds (ms_buyerOf M v) = mt_rounds M := mgFF M 11 15 v (by decide)
theorem mg_rounds_buys (M : MT) (v : Int32) : mt_rounds (ms_buys M v) = mt_rounds M := mgFF M 11 16 v (by decide)
theorem mg_rounds_part (M : MT) (v : Int32) : mt_rounds (ms_part M v) = mt_rounds M := mgFF M 11 17 v (by decide)
theorem mg_rounds_forced (M : MT) (v : Int32) : mt_rounds (ms_forced M v) = mt_rounds M := mgFF M 11 18 v (by decide)
theorem mg_rounds_left (M : MT) (v : Nat → Int32) : mt_rounds (ms_left M v) = mt_rounds M := mgFA M 11 7 v
theorem mg_rounds_prices (M : MT) (v : Nat → Int32) : mt_rounds (ms_prices M v) = mt_rounds M := mgFA M 11 8 v
theorem mg_rounds_musts (M : MT) (v : Nat → Int32) : mt_rounds (ms_musts M v) = mt_rounds M := mgFA M 11 9 v
theorem mg_rounds_fell (M : MT) (v : Nat → Int32) : mt_rounds (ms_fell M v) = mt_rounds M := mgFA M 11 10 v
theorem mg_rounds_leastLost (M : MT) (v : Int32) : mt_rounds (ms_leastLost M v) = mt_rounds M := mgFF M 11 19 v (by decide)
theorem mg_rounds_gifts (M : MT) (v : Nat → Int32) : mt_rounds (ms_gifts M v) = mt_rounds M := mgFA M 11 11 v
theorem mg_rounds_bestGifts (M : MT) (v : Nat → Int32) : mt_rounds (ms_bestGifts M v) = mt_rounds M := mgFA M 11 12 v
theorem mg_rounds_spelt (M : MT) (v : Nat → Int32) : mt_rounds (ms_spelt M v) = mt_rounds M := mgFA M 11 13 v
theorem mg_rounds_speltMany (M : MT) (v : Int32) : mt_rounds (ms_speltMany M v) = mt_rounds M := mgFF M 11 20 v (by decide)
theorem me_coins (M : MT) : ms_coins M (mt_coins M) = M := meA M 6
theorem me2_coins (M : MT) (v : Nat → Int32) (h : v = mt_coins M) : ms_coins M v = M := by rw [h]; exact me_coins M
theorem mgs_coins (M : MT) (v : Nat → Int32) : mt_coins (ms_coins M v) = v := mgAs M 6 v
theorem mm_coins (M : MT) (a b : Nat → Int32) : ms_coins (ms_coins M a) b = ms_coins M b := mmA M 6 a b
theorem mg_coins_thrown (M : MT) (v : Int32) : mt_coins (ms_thrown M v) = mt_coins M := mgAF M 6 0 v
theorem mg_coins_now (M : MT) (v : Nat → Int32) : mt_coins (ms_now M v) = mt_coins M := mgAA M 6 0 v (by decide)
theorem mg_coins_aside (M : MT) (v : Nat → Int32) : mt_coins (ms_aside M v) = mt_coins M := mgAA M 6 1 v (by decide)
theorem mg_coins_undos (M : MT) (v : Nat → Int32) : mt_coins (ms_undos M v) = mt_coins M := mgAA M 6 2 v (by decide)
theorem mg_coins_undoMany (M : MT) (v : Int32) : mt_coins (ms_undoMany M v) = mt_coins M := mgAF M 6 1 v
theorem mg_coins_tape (M : MT) (v : Nat → Int32) : mt_coins (ms_tape M v) = mt_coins M := mgAA M 6 3 v (by decide)
theorem mg_coins_taped (M : MT) (v : Int32) : mt_coins (ms_taped M v) = mt_coins M := mgAF M 6 2 v
theorem mg_coins_size (M : MT) (v : Int32) : mt_coins (ms_size M v) = mt_coins M := mgAF M 6 3 v
theorem mg_coins_at (M : MT) (v : Int32) : mt_coins (ms_at M v) = mt_coins M := mgAF M 6 4 v
theorem mg_coins_token (M : MT) (v : Int32) : mt_coins (ms_token M v) = mt_coins M := mgAF M 6 5 v
theorem mg_coins_from (M : MT) (v : Int32) : mt_coins (ms_from M v) = mt_coins M := mgAF M 6 6 v
theorem mg_coins_value (M : MT) (v : Int32) : mt_coins (ms_value M v) = mt_coins M := mgAF M 6 7 v
theorem mg_coins_fault (M : MT) (v : Int32) : mt_coins (ms_fault M v) = mt_coins M := mgAF M 6 8 v
theorem mg_coins_sold (M : MT) (v : Nat → Int32) : mt_coins (ms_sold M v) = mt_coins M := mgAA M 6 4 v (by decide)
theorem mg_coins_sells (M : MT) (v : Nat → Int32) : mt_coins (ms_sells M v) = mt_coins M := mgAA M 6 5 v (by decide)
theorem mg_coins_fallen (M : MT) (v : Int32) : mt_coins (ms_fallen M v) = mt_coins M := mgAF M 6 9 v
theorem mg_coins_willFall (M : MT) (v : Int32) : mt_coins (ms_willFall M v) = mt_coins M := mgAF M 6 10 v
theorem mg_coins_rounds (M : MT) (v : Int32) : mt_coins (ms_rounds M v) = mt_coins M := mgAF M 6 11 v
theorem mg_coins_extraOf (M : MT) (v : Int32) : mt_coins (ms_extraOf M v) = mt_coins M := mgAF M 6 12 v
theorem mg_coins_extraCap (M : MT) (v : Int32) : mt_coins (ms_extraCap M v) = mt_coins M := mgAF M 6 13 v
theorem mg_coins_extraShock (M : MT) (v : Int32) : mt_coins (ms_extraShock M v) = mt_coins M := mgAF M 6 14 v
theorem mg_coins_buyerOf (M : MT) (v : Int32) : mt_coins (ms_buyerOf M v) = mt_coins M := mgAF M 6 15 v
theorem mg_coins_buys (M : MT) (v : Int32) : mt_coins (ms_buys M v) = mt_coins M := mgAF M 6 16 v
theorem mg_coins_part (M : MT) (v : Int32) : mt_coins (ms_part M v) = mt_coins M := mgAF M 6 17 v
theorem mg_coins_forced (M : MT) (v : Int32) : mt_coins (ms_forced M v) = mt_coins M := mgAF M 6 18 v
theorem mg_coins_left (M : MT) (v : Nat → Int32) : mt_coins (ms_left M v) = mt_coins M := mgAA M 6 7 v (by decide)
theorem mg_coins_prices (M : MT) (v : Nat → Int32) : mt_coins (ms_prices M v) = mt_coins M := mgAA M 6 8 v (by decide)
theorem mg_coins_musts (M : MT) (v : Nat → Int32) : mt_coins (ms_musts M v) = mt_coins M := mgAA M 6 9 v (by decide)
theorem mg_coins_fell (M : MT) (v : Nat → Int32) : mt_coins (ms_fell M v) = mt_coins M := mgAA M 6 10 v (by decide)
theorem mg_coins_leastLost (M : MT) (v : Int32) : mt_coins (ms_leastLost M v) = mt_coins M := mgAF M 6 19 v
theorem mg_coins_gifts (M : MT) (v : Nat → Int32) : mt_coins (ms_gifts M v) = mt_coins M := mgAA M 6 11 v (by decide)
theorem mg_coins_bestGifts (M : MT) (v : Nat → Int32) : mt_coins (ms_bestGifts M v) = mt_coins M := mgAA M 6 12 v (by decide)
theorem mg_coins_spelt (M : MT) (v : Nat → Int32) : mt_coins (ms_spelt M v) = mt_coins M := mgAA M 6 13 v (by decide)
theorem mg_coins_speltMany (M : MT) (v : Int32) : mt_coins (ms_speltMany M v) = mt_coins M := mgAF M 6 20 v
theorem me_extraOf (M : MT) : ms_extraOf M (mt_extraOf M) = M := meF M 12
theorem me2_extraOf (M : MT) (v : Int32) (h : v = mt_extraOf M) : ms_extraOf M v = M := by rw [h]; exact me_extraOf M
theorem mgs_extraOf (M : MT) (v : Int32) : mt_extraOf (ms_extraOf M v) = v := mgFs M 12 v
theorem mm_extraOf (M : MT) (a b : Int32) : ms_extraOf (ms_extraOf M a) b = ms_extraOf M b := mmF M 12 a b
theorem mg_extraOf_thrown (M : MT) (v : Int32) : mt_extraOf (ms_thrown M v) = mt_extraOf M := mgFF M 12 0 v (by decide)
theorem mg_extraOf_now (M : MT) (v : Nat → Int32) : mt_extraOf (ms_now M v) = mt_extraOf M := mgFA M 12 0 v
theorem mg_extraOf_aside (M : MT) (v : Nat → Int32) : mt_extraOf (ms_aside M v) = mt_extraOf M := mgFA M 12 1 v
theorem mg_extraOf_undos (M : MT) (v : Nat → Int32) : mt_extraOf (ms_undos M v) = mt_extraOf M := mgFA M 12 2 v
theorem mg_extraOf_undoMany (M : MT) (v : Int32) : mt_extraOf (ms_undoMany M v) = mt_extraOf M := mgFF M 12 1 v (by decide)
theorem mg_extraOf_tape (M : MT) (v : Nat → Int32) : mt_extraOf (ms_tape M v) = mt_extraOf M := mgFA M 12 3 v
theorem mg_extraOf_taped (M : MT) (v : Int32) : mt_extraOf (ms_taped M v) = mt_extraOf M := mgFF M 12 2 v (by decide)
theorem mg_extraOf_size (M : MT) (v : Int32) : mt_extraOf (ms_size M v) = mt_extraOf M := mgFF M 12 3 v (by decide)
theorem mg_extraOf_at (M : MT) (v : Int32) : mt_extraOf (ms_at M v) = mt_extraOf M := mgFF M 12 4 v (by decide)
theorem mg_extraOf_token (M : MT) (v : Int32) : mt_extraOf (ms_token M v) = mt_extraOf M := mgFF M 12 5 v (by decide)
theorem mg_extraOf_from (M : MT) (v : Int32) : mt_extraOf (ms_from M v) = mt_extraOf M := mgFF M 12 6 v (by decide)
theorem mg_extraOf_value (M : MT) (v : Int32) : mt_extraOf (ms_value M v) = mt_extraOf M := mgFF M 12 7 v (by decide)
theorem mg_extraOf_fault (M : MT) (v : Int32) : mt_extraOf (ms_fault M v) = mt_extraOf M := mgFF M 12 8 v (by decide)
theorem mg_extraOf_sold (M : MT) (v : Nat → Int32) : mt_extraOf (ms_sold M v) = mt_extraOf M := mgFA M 12 4 v
theorem mg_extraOf_sells (M : MT) (v : Nat → Int32) : mt_extraOf (ms_sells M v) = mt_extraOf M := mgFA M 12 5 v
theorem mg_extraOf_fallen (M : MT) (v : Int32) : mt_extraOf (ms_fallen M v) = mt_extraOf M := mgFF M 12 9 v (by decide)
theorem mg_extraOf_willFall (M : MT) (v : Int32) : mt_extraOf (ms_willFall M v) = mt_extraOf M := mgFF M 12 10 v (by decide)
theorem mg_extraOf_rounds (M : MT) (v : Int32) : mt_extraOf (ms_rounds M v) = mt_extraOf M := mgFF M 12 11 v (by decide)
theorem mg_extraOf_coins (M : MT) (v : Nat → Int32) : mt_extraOf (ms_coins M v) = mt_extraOf M := mgFA M 12 6 v
theorem mg_extraOf_extraCap (M : MT) (v : Int32) : mt_extraOf (ms_extraCap M v) = mt_extraOf M := mgFF M 12 13 v (by decide)
theorem mg_extraOf_extraShock (M : MT) (v : Int32) : mt_extraOf (ms_extraShock M v) = mt_extraOf M := mgFF M 12 14 v (by decide)
theorem mg_extraOf_buyerOf (M : MT) (v : Int32) : mt_extraOf (ms_buyerOf M v) = mt_extraOf M := mgFF M 12 15 v (by decide)
theorem mg_extraOf_buys (M : MT) (v : Int32) : mt_extraOf (ms_buys M v) = mt_extraOf M := mgFF M 12 16 v (by decide)
theorem mg_extraOf_part (M : MT) (v : Int32) : mt_extraOf (ms_part M v) = mt_extraOf M := mgFF M 12 17 v (by decide)
theorem mg_extraOf_forced (M : MT) (v : Int32) : mt_extraOf (ms_forced M v) = mt_extraOf M := mgFF M 12 18 v (by decide)
theorem mg_extraOf_left (M : MT) (v : Nat → Int32) : mt_extraOf (ms_left M v) = mt_extraOf M := mgFA M 12 7 v
theorem mg_extraOf_prices (M : MT) (v : Nat → Int32) : mt_extraOf (ms_prices M v) = mt_extraOf M := mgFA M 12 8 v
theorem mg_extraOf_musts (M : MT) (v : Nat → Int32) : mt_extraOf (ms_musts M v) = mt_extraOf M := mgFA M 12 9 v
theorem mg_extraOf_fell (M : MT) (v : Nat → Int32) : mt_extraOf (ms_fell M v) = mt_extraOf M := mgFA M 12 10 v
theorem mg_extraOf_leastLost (M : MT) (v : Int32) : mt_extraOf (ms_leastLost M v) = mt_extraOf M := mgFF M 12 19 v (by decide)
theorem mg_extraOf_gifts (M : MT) (v : Nat → Int32) : mt_extraOf (ms_gifts M v) = mt_extraOf M := mgFA M 12 11 v
theorem mg_extraOf_bestGifts (M : MT) (v : Nat → Int32) : mt_extraOf (ms_bestGifts M v) = mt_extraOf M := mgFA M 12 12 v
theorem mg_extraOf_spelt (M : MT) (v : Nat → Int32) : mt_extraOf (ms_spelt M v) = mt_extraOf M := mgFA M 12 13 v
theorem mg_extraOf_speltMany (M : MT) (v : Int32) : mt_extraOf (ms_speltMany M v) = mt_extraOf M := mgFF M 12 20 v (by decide)
theorem me_extraCap (M : MT) : ms_extraCap M (mt_extraCap M) = M := meF M 13
theorem me2_extraCap (M : MT) (v : Int32) (h : v = mt_extraCap M) : ms_extraCap M v = M := by rw [h]; exact me_extraCap M
theorem mgs_extraCap (M : MT) (v : Int32) : mt_extraCap (ms_extraCap M v) = v := mgFs M 13 v
theorem mm_extraCap (M : MT) (a b : Int32) : ms_extraCap (ms_extraCap M a) b = ms_extraCap M b := mmF M 13 a b
theorem mg_extraCap_thrown (M : MT) (v : Int32) : mt_extraCap (ms_thrown M v) = mt_extraCap M := mgFF M 13 0 v (by decide)
theorem mg_extraCap_now (M : MT) (v : Nat → Int32) : mt_extraCap (ms_now M v) = mt_extraCap M := mgFA M 13 0 v
theorem mg_extraCap_aside (M : MT) (v : Nat → Int32) : mt_extraCap (ms_aside M v) = mt_extraCap M := mgFA M 13 1 v
theorem mg_extraCap_undos (M : MT) (v : Nat → Int32) : mt_extraCap (ms_undos M v) = mt_extraCap M := mgFA M 13 2 v
theorem mg_extraCap_undoMany (M : MT) (v : Int32) : mt_extraCap (ms_undoMany M v) = mt_extraCap M := mgFF M 13 1 v (by decide)
theorem mg_extraCap_tape (M : MT) (v : Nat → Int32) : mt_extraCap (ms_tape M v) = mt_extraCap M := mgFA M 13 3 v
theorem mg_extraCap_taped (M : MT) (v : Int32) : mt_extraCap (ms_taped M v) = mt_extraCap M := mgFF M 13 2 v (by decide)
theorem mg_extraCap_size (M : MT) (v : Int32) : mt_extraCap (ms_size M v) = mt_extraCap M := mgFF M 13 3 v (by decide)
theorem mg_extraCap_at (M : MT) (v : Int32) : mt_extraCap (ms_at M v) = mt_extraCap M := mgFF M 13 4 v (by decide)
theorem mg_extraCap_token (M : MT) (v : Int32) : mt_extraCap (ms_token M v) = mt_extraCap M := mgFF M 13 5 v (by decide)
theorem mg_extraCap_from (M : MT) (v : Int32) : mt_extraCap (ms_from M v) = mt_extraCap M := mgFF M 13 6 v (by decide)
theorem mg_extraCap_value (M : MT) (v : Int32) : mt_extraCap (ms_value M v) = mt_extraCap M := mgFF M 13 7 v (by decide)
theorem mg_extraCap_fault (M : MT) (v : Int32) : mt_extraCap (ms_fault M v) = mt_extraCap M := mgFF M 13 8 v (by decide)
theorem mg_extraCap_sold (M : MT) (v : Nat → Int32) : mt_extraCap (ms_sold M v) = mt_extraCap M := mgFA M 13 4 v
theorem mg_extraCap_sells (M : MT) (v : Nat → Int32) : mt_extraCap (ms_sells M v) = mt_extraCap M := mgFA M 13 5 v
theorem mg_extraCap_fallen (M : MT) (v : Int32) : mt_extraCap (ms_fallen M v) = mt_extraCap M := mgFF M 13 9 v (by decide)
theorem mg_extraCap_willFall (M : MT) (v : Int32) : mt_extraCap (ms_willFall M v) = mt_extraCap M := mgFF M 13 10 v (by decide)
theorem mg_extraCap_rounds (M : MT) (v : Int32) : mt_extraCap (ms_rounds M v) = mt_extraCap M := mgFF M 13 11 v (by decide)
theorem mg_extraCap_coins (M : MT) (v : Nat → Int32) : mt_extraCap (ms_coins M v) = mt_extraCap M := mgFA M 13 6 v
theorem mg_extraCap_extraOf (M : MT) (v : Int32) : mt_extraCap (ms_extraOf M v) = mt_extraCap M := mgFF M 13 12 v (by decide)
theorem mg_extraCap_extraShock (M : MT) (v : Int32) : mt_extraCap (ms_extraShock M v) = mt_extraCap M := mgFF M 13 14 v (by decide)
theorem mg_extraCap_buyerOf (M : MT) (v : Int32) : mt_extraCap (ms_buyerOf M v) = mt_extraCap M := mgFF M 13 15 v (by decide)
theorem mg_extraCap_buys (M : MT) (v : Int32) : mt_extraCap (ms_buys M v) = mt_extraCap M := mgFF M 13 16 v (by decide)
theorem mg_extraCap_part (M : MT) (v : Int32) : mt_extraCap (ms_part M v) = mt_extraCap M := mgFF M 13 17 v (by decide)
theorem mg_extraCap_forced (M : MT) (v : Int32) : mt_extraCap (ms_forced M v) = mt_extraCap M := mgFF M 13 18 v (by decide)
theorem mg_extraCap_left (M : MT) (v : Nat → Int32) : mt_extraCap (ms_left M v) = mt_extraCap M := mgFA M 13 7 v
theorem mg_extraCap_prices (M : MT) (v : Nat → Int32) : mt_extraCap (ms_prices M v) = mt_extraCap M := mgFA M 13 8 v
theorem mg_extraCap_musts (M : MT) (v : Nat → Int32) : mt_extraCap (ms_musts M v) = mt_extraCap M := mgFA M 13 9 v
theorem mg_extraCap_fell (M : MT) (v : Nat → Int32) : mt_extraCap (ms_fell M v) = mt_extraCap M := mgFA M 13 10 v
theorem mg_extraCap_leastLost (M : MT) (v : Int32) : mt_extraCap (ms_leastLost M v) = mt_extraCap M := mgFF M 13 19 v (by decide)
theorem mg_extraCap_gifts (M : MT) (v : Nat → Int32) : mt_extraCap (ms_gifts M v) = mt_extraCap M := mgFA M 13 11 v
theorem mg_extraCap_bestGifts (M : MT) (v : Nat → Int32) : mt_extraCap (ms_bestGifts M v) = mt_extraCap M := mgFA M 13 12 v
theorem mg_extraCap_spelt (M : MT) (v : Nat → Int32) : mt_extraCap (ms_spelt M v) = mt_extraCap M := mgFA M 13 13 v
theorem mg_extraCap_speltMany (M : MT) (v : Int32) : mt_extraCap (ms_speltMany M v) = mt_extraCap M := mgFF M 13 20 v (by decide)
theorem me_extraShock (M : MT) : ms_extraShock M (mt_extraShock M) = M := meF M 14
theorem me2_extraShock (M : MT) (v : Int32) (h : v = mt_extraShock M) : ms_extraShock M v = M := by rw [h]; exact me_extraShock M
theorem mgs_extraShock (M : MT) (v : Int32) : mt_extraShock (ms_extraShock M v) = v := mgFs M 14 v
theorem mm_extraShock (M : MT) (a b : Int32) : ms_extraShock (ms_extraShock M a) b = ms_extraShock M b := mmF M 14 a b
theorem mg_extraShock_thrown (M : MT) (v : Int32) : mt_extraShock (ms_thrown M v) = mt_extraShock M := mgFF M 14 0 v (by decide)
theorem mg_extraShock_now (M : MT) (v : Nat → Int32) : mt_extraShock (ms_now M v) = mt_extraShock M := mgFA M 14 0 v
theorem mg_extraShock_aside (M : MT) (v : Nat → Int32) : mt_extraShock (ms_aside M v) = mt_extraShock M := mgFA M 14 1 v
theorem mg_extraShock_undos (M : MT) (v : Nat → Int32) : mt_extraShock (ms_undos M v) = mt_extraShock M := mgFA M 14 2 v
theorem mg_extraShock_undoMany (M : MT) (v : Int32) : mt_extraShock (ms_undoMany M v) = mt_extraShock M := mgFF M 14 1 v (by decide)
theorem mg_extraShock_tape (M : MT) (v : Nat → Int32) : mt_extraShock (ms_tape M v) = mt_extraShock M := mgFA M 14 3 v
theorem mg_extraShock_taped (M : MT) (v : Int32) : mt_extraShock (ms_taped M v) = mt_extraShock M := mgFF M 14 2 v (by decide)
theorem mg_extraShock_size (M : MT) (v : Int32) : mt_extraShock (ms_size M v) = mt_extraShock M := mgFF M 14 3 v (by decide)
theorem mg_extraShock_at (M : MT) (v : Int32) : mt_extraShock (ms_at M v) = mt_extraShock M := mgFF M 14 4 v (by decide)
theorem mg_extraShock_token (M : MT) (v : Int32) : mt_extraShock (ms_token M v) = mt_extraShock M := mgFF M 14 5 v (by decide)
theorem mg_extraShock_from (M : MT) (v : Int32) : mt_extraShock (ms_from M v) = mt_extraShock M := mgFF M 14 6 v (by decide)
theorem mg_extraShock_value (M : MT) (v : Int32) : mt_extraShock (ms_value M v) = mt_extraShock M := mgFF M 14 7 v (by decide)
theorem mg_extraShock_fault (M : MT) (v : Int32) : mt_extraShock (ms_fault M v) = mt_extraShock M := mgFF M 14 8 v (by decide)
theorem mg_extraShock_sold (M : MT) (v : Nat → Int32) : mt_extraShock (ms_sold M v) = mt_extraShock M := mgFA M 14 4 v
theorem mg_extraShock_sells (M : MT) (v : Nat → Int32) : mt_extraShock (ms_sells M v) = mt_extraShock M := mgFA M 14 5 v
theorem mg_extraShock_fallen (M : MT) (v : Int32) : mt_extraShock (ms_fallen M v) = mt_extraShock M := mgFF M 14 9 v (by decide)
theorem mg_extraShock_willFall (M : MT) (v : Int32) : mt_extraShock (ms_willFall M v) = mt_extraShock M := mgFF M 14 10 v (by decide)
theorem mg_extraShock_rounds (M : MT) (v : Int32) : mt_extraShock (ms_rounds M v) = mt_extraShock M := mgFF M 14 11 v (by decide)
theorem mg_extraShock_coins (M : MT) (v : Nat → Int32) : mt_extraShock (ms_coins M v) = mt_extraShock M := mgFA M 14 6 v
theorem mg_extraShock_extraOf (M : MT) (v : Int32) : mt_extraShock (ms_extraOf M v) = mt_extraShock M := mgFF M 14 12 v (by decide)
theorem mg_extraShock_extraCap (M : MT) (v : Int32) : mt_extraShock (ms_extraCap M v) = mt_extraShock M := mgFF M 14 13 v (by decide)
theorem mg_extraShock_buyerOf (M : MT) (v : Int32) : mt_extraShock (ms_buyerOf M v) = mt_extraShock M := mgFF M 14 15 v (by decide)
theorem mg_extraShock_buys (M : MT) (v : Int32) : mt_extraShock (ms_buys M v) = mt_extraShock M := mgFF M 14 16 v (by decide)
theorem mg_extraShock_part (M : MT) (v : Int32) : mt_extraShock (ms_part M v) = mt_extraShock M := mgFF M 14 17 v (by decide)
theorem mg_extraShock_forced (M : MT) (v : Int32) : mt_extraShock (ms_forced M v) = mt_extraShock M := mgFF M 14 18 v (by decide)
theorem mg_extraShock_left (M : MT) (v : Nat → Int32) : mt_extraShock (ms_left M v) = mt_extraShock M := mgFA M 14 7 v
theorem mg_extraShock_prices (M : MT) (v : Nat → Int32) : mt_extraShock (ms_prices M v) = mt_extraShock M := mgFA M 14 8 v
theorem mg_extraShock_musts (M : MT) (v : Nat → Int32) : mt_extraShock (ms_musts M v) = mt_extraShock M := mgFA M 14 9 v
theorem mg_extraShock_fell (M : MT) (v : Nat → Int32) : mt_extraShock (ms_fell M v) = mt_extraShock M := mgFA M 14 10 v
theorem mg_extraShock_leastLost (M : MT) (v : Int32) : mt_extraShock (ms_leastLost M v) = mt_extraShock M := mgFF M 14 19 v (by decide)
theorem mg_extraShock_gifts (M : MT) (v : Nat → Int32) : mt_extraShock (ms_gifts M v) = mt_extraShock M := mgFA M 14 11 v
theorem mg_extraShock_bestGifts (M : MT) (v : Nat → Int32) : mt_extraShock (ms_bestGifts M v) = mt_extraShock M := mgFA M 14 12 v
theorem mg_extraShock_spelt (M : MT) (v : Nat → Int32) : mt_extraShock (ms_spelt M v) = mt_extraShock M := mgFA M 14 13 v
theorem mg_extraShock_speltMany (M : MT) (v : Int32) : mt_extraShock (ms_speltMany M v) = mt_extraShock M := mgFF M 14 20 v (by decide)
theorem me_buyerOf (M : MT) : ms_buyerOf M (mt_buyerOf M) = M := meF M 15
theorem me2_buyerOf (M : MT) (v : Int32) (h : v = mt_buyerOf M) : ms_buyerOf M v = M := by rw [h]; exact me_buyerOf M
theorem mgs_buyerOf (M : MT) (v : Int32) : mt_buyerOf (ms_buyerOf M v) = v := mgFs M 15 v
theorem mm_buyerOf (M : MT) (a b : Int32) : ms_buyerOf (ms_buyerOf M a) b = ms_buyerOf M b := mmF M 15 a b
theorem mg_buyerOf_thrown (M : MT) (v : Int32) : mt_buyerOf (ms_thrown M v) = mt_buyerOf M := mgFF M 15 0 v (by decide)
theorem mg_buyerOf_now (M : MT) (v : Nat → Int32) : mt_buyerOf (ms_now M v) = mt_buyerOf M := mgFA M 15 0 v
theorem mg_buyerOf_aside (M : MT) (v : Nat → Int32) : mt_buyerOf (ms_aside M v) = mt_buyerOf M := mgFA M 15 1 v
theorem mg_buyerOf_undos (M : MT) (v : Nat → Int32) : mt_buyerOf (ms_undos M v) = mt_buyerOf M := mgFA M 15 2 v
theorem mg_buyerOf_undoMany (M : MT) (v : Int32) : mt_buyerOf (ms_undoMany M v) = mt_buyerOf M := mgFF M 15 1 v (by decide)
theorem mg_buyerOf_tape (M : MT) (v : Nat → Int32) : mt_buyerOf (ms_tape M v) = mt_buyerOf M := mgFA M 15 3 v
theorem mg_buyerOf_taped (M : MT) (v : Int32) : mt_buyerOf (ms_taped M v) = mt_buyerOf M := mgFF M 15 2 v (by decide)
theorem mg_buyerOf_size (M : MT) (v : Int32) : mt_buyerOf (ms_size M v) = mt_buyerOf M := mgFF M 15 3 v (by decide)
theorem mg_buyerOf_at (M : MT) (v : Int32) : mt_buyerOf (ms_at M v) = mt_buyerOf M := mgFF M 15 4 v (by decide)
theorem mg_buyerOf_token (M : MT) (v : Int32) : mt_buyerOf (ms_token M v) = mt_buyerOf M := mgFF M 15 5 v (by decide)
theorem mg_buyerOf_from (M : MT) (v : Int32) : mt_buyerOf (ms_from M v) = mt_buyerOf M := mgFF M 15 6 v (by decide)
theorem mg_buyerOf_value (M : MT) (v : Int32) : mt_buyerOf (ms_value M v) = mt_buyerOf M := mgFF M 15 7 v (by decide)
theorem mg_buyerOf_fault (M : MT) (v : Int32) : mt_buyerOf (ms_fault M v) = mt_buyerOf M := mgFF M 15 8 v (by decide)
theorem mg_buyerOf_sold (M : MT) (v : Nat → Int32) : mt_buyerOf (ms_sold M v) = mt_buyerOf M := mgFA M 15 4 v
theorem mg_buyerOf_sells (M : MT) (v : Nat → Int32) : mt_buyerOf (ms_sells M v) = mt_buyerOf M := mgFA M 15 5 v
theorem mg_buyerOf_fallen (M : MT) (v : Int32) : mt_buyerOf (ms_fallen M v) = mt_buyerOf M := mgFF M 15 9 v (by decide)
theorem mg_buyerOf_willFall (M : MT) (v : Int32) : mt_buyerOf (ms_willFall M v) = mt_buyerOf M := mgFF M 15 10 v (by decide)
theorem mg_buyerOf_rounds (M : MT) (v : Int32) : mt_buyerOf (ms_rounds M v) = mt_buyerOf M := mgFF M 15 11 v (by decide)
theorem mg_buyerOf_coins (M : MT) (v : Nat → Int32) : mt_buyerOf (ms_coins M v) = mt_buyerOf M := mgFA M 15 6 v
theorem mg_buyerOf_extraOf (M : MT) (v : Int32) : mt_buyerOf (ms_extraOf M v) = mt_buyerOf M := mgFF M 15 12 v (by decide)
theorem mg_buyerOf_extraCap (M : MT) (v : Int32) : mt_buyerOf (ms_extraCap M v) = mt_buyerOf M := mgFF M 15 13 v (by decide)
theorem mg_buyerOf_extraShock (M : MT) (v : Int32) : mt_buyerOf (ms_extraShock M v) = mt_buyerOf M := mgFF M 15 14 v (by decide)
theorem mg_buyerOf_buys (M : MT) (v : Int32) : mt_buyerOf (ms_buys M v) = mt_buyerOf M := mgFF M 15 16 v (by decide)
theorem mg_buyerOf_part (M : MT) (v : Int32) : mt_buyerOf (ms_part M v) = mt_buyerOf M := mgFF M 15 17 v (by decide)
theorem mg_buyerOf_forced (M : MT) (v : Int32) : mt_buyerOf (ms_forced M v) = mt_buyerOf M := mgFF M 15 18 v (by decide)
theorem mg_buyerOf_left (M : MT) (v : Nat → Int32) : mt_buyerOf (ms_left M v) = mt_buyerOf M := mgFA M 15 7 v
theorem mg_buyerOf_prices (M : MT) (v : Nat → Int32) : mt_buyerOf (ms_prices M v) = mt_buyerOf M := mgFA M 15 8 v
theorem mg_buyerOf_musts (M : MT) (v : Nat → Int32) : mt_buyerOf (ms_musts M v) = mt_buyerOf M := mgFA M 15 9 v
theorem mg_buyerOf_fell (M : MT) (v : Nat → Int32) : mt_buyerOf (ms_fell M v) = mt_buyerOf M := mgFA M 15 10 v
theorem mg_buyerOf_leastLost (M : MT) (v : Int32) : mt_buyerOf (ms_leastLost M v) = mt_buyerOf M := mgFF M 15 19 v (by decide)
theorem mg_buyerOf_gifts (M : MT) (v : Nat → Int32) : mt_buyerOf (ms_gifts M v) = mt_buyerOf M := mgFA M 15 11 v
theorem mg_buyerOf_bestGifts (M : MT) (v : Nat → Int32) : mt_buyerOf (ms_bestGifts M v) = mt_buyerOf M := mgFA M 15 12 v
theorem mg_buyerOf_spelt (M : MT) (v : Nat → Int32) : mt_buyerOf (ms_spelt M v) = mt_buyerOf M := mgFA M 15 13 v
theorem mg_buyerOf_speltMany (M : MT) (v : Int32) : mt_buyerOf (ms_speltMany M v) = mt_buyerOf M := mgFF M 15 20 v (by decide)
theorem me_buys (M : MT) : ms_buys M (mt_buys M) = M := meF M 16
theorem me2_buys (M : MT) (v : Int32) (h : v = mt_buys M) : ms_buys M v = M := by rw [h]; exact me_buys M
theorem mgs_buys (M : MT) (v : Int32) : mt_buys (ms_buys M v) = v := mgFs M 16 v
theorem mm_buys (M : MT) (a b : Int32) : ms_buys (ms_buys M a) b = ms_buys M b := mmF M 16 a b
theorem mg_buys_thrown (M : MT) (v : Int32) : mt_buys (ms_thrown M v) = mt_buys M := mgFF M 16 0 v (by decide)
theorem mg_buys_now (M : MT) (v : Nat → Int32) : mt_buys (ms_now M v) = mt_buys M := mgFA M 16 0 v
theorem mg_buys_aside (M : MT) (v : Nat → Int32) : mt_buys (ms_aside M v) = mt_buys M := mgFA M 16 1 v
theorem mg_buys_undos (M : MT) (v : Nat → Int32) : mt_buys (ms_undos M v) = mt_buys M := mgFA M 16 2 v
theorem mg_buys_undoMany (M : MT) (v : Int32) : mt_buys (ms_undoMany M v) = mt_buys M := mgFF M 16 1 v (by decide)
theorem mg_buys_tape (M : MT) (v : Nat → Int32) : mt_buys (ms_tape M v) = mt_buys M := mgFA M 16 3 v
theorem mg_buys_taped (M : MT) (v : Int32) : mt_buys (ms_taped M v) = mt_buys M := mgFF M 16 2 v (by decide)
theorem mg_buys_size (M : MT) (v : Int32) : mt_buys (ms_size M v) = mt_buys M := mgFF M 16 3 v (by decide)
theorem mg_buys_at (M : MT) (v : Int32) : mt_buys (ms_at M v) = mt_buys M := mgFF M 16 4 v (by decide)
theorem mg_buys_token (M : MT) (v : Int32) : mt_buys (ms_token M v) = mt_buys M := mgFF M 16 5 v (by decide)
theorem mg_buys_from (M : MT) (v : Int32) : mt_buys (ms_from M v) = mt_buys M := mgFF M 16 6 v (by decide)
theorem mg_buys_value (M : MT) (v : Int32) : mt_buys (ms_value M v) = mt_buys M := mgFF M 16 7 v (by decide)
theorem mg_buys_fault (M : MT) (v : Int32) : mt_buys (ms_fault M v) = mt_buys M := mgFF M 16 8 v (by decide)
theorem mg_buys_sold (M : MT) (v : Nat → Int32) : mt_buys (ms_sold M v) = mt_buys M := mgFA M 16 4 v
theorem mg_buys_sells (M : MT) (v : Nat → Int32) : mt_buys (ms_sells M v) = mt_buys M := mgFA M 16 5 v
theorem mg_buys_fallen (M : MT) (v : Int32) : mt_buys (ms_fallen M v) = mt_buys M := mgFF M 16 9 v (by decide)
theorem mg_buys_willFall (M : MT) (v : Int32) : mt_buys (ms_willFall M v) = mt_buys M := mgFF M 16 10 v (by decide)
theorem mg_buys_rounds (M : MT) (v : Int32) : mt_buys (ms_rounds M v) = mt_buys M := mgFF M 16 11 v (by decide)
theorem mg_buys_coins (M : MT) (v : Nat → Int32) : mt_buys (ms_coins M v) = mt_buys M := mgFA M 16 6 v
theorem mg_buys_extraOf (M : MT) (v : Int32) : mt_buys (ms_extraOf M v) = mt_buys M := mgFF M 16 12 v (by decide)
theorem mg_buys_extraCap (M : MT) (v : Int32) : mt_buys (ms_extraCap M v) = mt_buys M := mgFF M 16 13 v (by decide)
theorem mg_buys_extraShock (M : MT) (v : Int32) : mt_buys (ms_extraShock M v) = mt_buys M := mgFF M 16 14 v (by decide)
theorem mg_buys_buyerOf (M : MT) (v : Int32) : mt_buys (ms_buyerOf M v) = mt_buys M := mgFF M 16 15 v (by decide)
theorem mg_buys_part (M : MT) (v : Int32) : mt_buys (ms_part M v) = mt_buys M := mgFF M 16 17 v (by decide)
theorem mg_buys_forced (M : MT) (v : Int32) : mt_buys (ms_forced M v) = mt_buys M := mgFF M 16 18 v (by decide)
theorem mg_buys_left (M : MT) (v : Nat → Int32) : mt_buys (ms_left M v) = mt_buys M := mgFA M 16 7 v
theorem mg_buys_prices (M : MT) (v : Nat → Int32) : mt_buys (ms_prices M v) = mt_buys M := mgFA M 16 8 v
theorem mg_buys_musts (M : MT) (v : Nat → Int32) : mt_buys (ms_musts M v) = mt_buys M := mgFA M 16 9 v
theorem mg_buys_fell (M : MT) (v : Nat → Int32) : mt_buys (ms_fell M v) = mt_buys M := mgFA M 16 10 v
theorem mg_buys_leastLost (M : MT) (v : Int32) : mt_buys (ms_leastLost M v) = mt_buys M := mgFF M 16 19 v (by decide)
theorem mg_buys_gifts (M : MT) (v : Nat → Int32) : mt_buys (ms_gifts M v) = mt_buys M := mgFA M 16 11 v
theorem mg_buys_bestGifts (M : MT) (v : Nat → Int32) : mt_buys (ms_bestGifts M v) = mt_buys M := mgFA M 16 12 v
theorem mg_buys_spelt (M : MT) (v : Nat → Int32) : mt_buys (ms_spelt M v) = mt_buys M := mgFA M 16 13 v
theorem mg_buys_speltMany (M : MT) (v : Int32) : mt_buys (ms_speltMany M v) = mt_buys M := mgFF M 16 20 v (by decide)
theorem me_part (M : MT) : ms_part M (mt_part M) = M := meF M 17
theorem me2_part (M : MT) (v : Int32) (h : v = mt_part M) : ms_part M v = M := by rw [h]; exact me_part M
theorem mgs_part (M : MT) (v : Int32) : mt_part (ms_part M v) = v := mgFs M 17 v
theorem mm_part (M : MT) (a b : Int32) : ms_part (ms_part M a) b = ms_part M b := mmF M 17 a b
theorem mg_part_thrown (M : MT) (v : Int32) : mt_part (ms_thrown M v) = mt_part M := mgFF M 17 0 v (by decide)
theorem mg_part_now (M : MT) (v : Nat → Int32) : mt_part (ms_now M v) = mt_part M := mgFA M 17 0 v
theorem mg_part_aside (M : MT) (v : Nat → Int32) : mt_part (ms_aside M v) = mt_part M := mgFA M 17 1 v
theorem mg_part_undos (M : MT) (v : Nat → Int32) : mt_part (ms_undos M v) = mt_part M := mgFA M 17 2 v
theorem mg_part_undoMany (M : MT) (v : Int32) : mt_part (ms_undoMany M v) = mt_part M := mgFF M 17 1 v (by decide)
theorem mg_part_tape (M : MT) (v : Nat → Int32) : mt_part (ms_tape M v) = mt_part M := mgFA M 17 3 v
theorem mg_part_taped (M : MT) (v : Int32) : mt_part (ms_taped M v) = mt_part M := mgFF M 17 2 v (by decide)
theorem mg_part_size (M : MT) (v : Int32) : mt_part (ms_size M v) = mt_part M := mgFF M 17 3 v (by decide)
theorem mg_part_at (M : MT) (v : Int32) : mt_part (ms_at M v) = mt_part M := mgFF M 17 4 v (by decide)
theorem mg_part_token (M : MT) (v : Int32) : mt_part (ms_token M v) = mt_part M := mgFF M 17 5 v (by decide)
theorem mg_part_from (M : MT) (v : Int32) : mt_part (ms_from M v) = mt_part M := mgFF M 17 6 v (by decide)
theorem mg_part_value (M : MT) (v : Int32) : mt_part (ms_value M v) = mt_part M := mgFF M 17 7 v (by decide)
theorem mg_part_fault (M : MT) (v : Int32) : mt_part (ms_fault M v) = mt_part M := mgFF M 17 8 v (by decide)
theorem mg_part_sold (M : MT) (v : Nat → Int32) : mt_part (ms_sold M v) = mt_part M := mgFA M 17 4 v
theorem mg_part_sells (M : MT) (v : Nat → Int32) : mt_part (ms_sells M v) = mt_part M := mgFA M 17 5 v
theorem mg_part_fallen (M : MT) (v : Int32) : mt_part (ms_fallen M v) = mt_part M := mgFF M 17 9 v (by decide)
theorem mg_part_willFall (M : MT) (v : Int32) : mt_part (ms_willFall M v) = mt_part M := mgFF M 17 10 v (by decide)
theorem mg_part_rounds (M : MT) (v : Int32) : mt_part (ms_rounds M v) = mt_part M := mgFF M 17 11 v (by decide)
theorem mg_part_coins (M : MT) (v : Nat → Int32) : mt_part (ms_coins M v) = mt_part M := mgFA M 17 6 v
theorem mg_part_extraOf (M : MT) (v : Int32) : mt_part (ms_extraOf M v) = mt_part M := mgFF M 17 12 v (by decide)
theorem mg_part_extraCap (M : MT) (v : Int32) : mt_part (ms_extraCap M v) = mt_part M := mgFF M 17 13 v (by decide)
theorem mg_part_extraShock (M : MT) (v : Int32) : mt_part (ms_extraShock M v) = mt_part M := mgFF M 17 14 v (by decide)
theorem mg_part_buyerOf (M : MT) (v : Int32) : mt_part (ms_buyerOf M v) = mt_part M := mgFF M 17 15 v (by decide)
theorem mg_part_buys (M : MT) (v : Int32) : mt_part (ms_buys M v) = mt_part M := mgFF M 17 16 v (by decide)
theorem mg_part_forced (M : MT) (v : Int32) : mt_part (ms_forced M v) = mt_part M := mgFF M 17 18 v (by decide)
theorem mg_part_left (M : MT) (v : Nat → Int32) : mt_part (ms_left M v) = mt_part M := mgFA M 17 7 v
theorem mg_part_prices (M : MT) (v : Nat → Int32) : mt_part (ms_prices M v) = mt_part M := mgFA M 17 8 v
theorem mg_part_musts (M : MT) (v : Nat → Int32) : mt_part (ms_musts M v) = mt_part M := mgFA M 17 9 v
theorem mg_part_fell (M : MT) (v : Nat → Int32) : mt_part (ms_fell M v) = mt_part M := mgFA M 17 10 v
theorem mg_part_leastLost (M : MT) (v : Int32) : mt_part (ms_leastLost M v) = mt_part M := mgFF M 17 19 v (by decide)
theorem mg_part_gifts (M : MT) (v : Nat → Int32) : mt_part (ms_gifts M v) = mt_part M := mgFA M 17 11 v
theorem mg_part_bestGifts (M : MT) (v : Nat → Int32) : mt_part (ms_bestGifts M v) = mt_part M := mgFA M 17 12 v
theorem mg_part_spelt (M : MT) (v : Nat → Int32) : mt_part (ms_spelt M v) = mt_part M := mgFA M 17 13 v
theorem mg_part_speltMany (M : MT) (v : Int32) : mt_part (ms_speltMany M v) = mt_part M := mgFF M 17 20 v (by decide)
theorem me_forced (M : MT) : ms_forced M (mt_forced M) = M := meF M 18
theorem me2_forced (M : MT) (v : Int32) (h : v = mt_forced M) : ms_forced M v = M := by rw [h]; exact me_forced M
theorem mgs_forced (M : MT) (v : Int32) : mt_forced (ms_forced M v) = v := mgFs M 18 v
theorem mm_forced (M : MT) (a b : Int32) : ms_forced (ms_forced M a) b = ms_forced M b := mmF M 18 a b
theorem mg_forced_thrown (M : MT) (v : Int32) : mt_forced (ms_thrown M v) = mt_forced M := mgFF M 18 0 v (by decide)
theorem mg_forced_now (M : MT) (v : Nat → Int32) : mt_forced (ms_now M v) = mt_forced M := mgFA M 18 0 v
theorem mg_forced_aside (M : MT) (v : Nat → Int32) : mt_forced (ms_aside M v) = mt_forced M := mgFA M 18 1 v
theorem mg_forced_undos (M : MT) (v : Nat → Int32) : mt_forced (ms_undos M v) = mt_forced M := mgFA M 18 2 v
theorem mg_forced_undoMany (M : MT) (v : Int32) : mt_forced (ms_undoMany M v) = mt_forced M := mgFF M 18 1 v (by decide)
theorem mg_forced_tape (M : MT) (v : Nat → Int32) : mt_forced (ms_tape M v) = mt_forced M := mgFA M 18 3 v
theorem mg_forced_taped (M : MT) (v : Int32) : mt_forced (ms_taped M v) = mt_forced M := mgFF M 18 2 v (by decide)
theorem mg_forced_size (M : MT) (v : Int32) : mt_forced (ms_size M v) = mt_forced M := mgFF M 18 3 v (by decide)
theorem mg_forced_at (M : MT) (v : Int32) : mt_forced (ms_at M v) = mt_forced M := mgFF M 18 4 v (by decide)
theorem mg_forced_token (M : MT) (v : Int32) : mt_forced (ms_token M v) = mt_forced M := mgFF M 18 5 v (by decide)
theorem mg_forced_from (M : MT) (v : Int32) : mt_forced (ms_from M v) = mt_forced M := mgFF M 18 6 v (by decide)
theorem mg_forced_value (M : MT) (v : Int32) : mt_forced (ms_value M v) = mt_forced M := mgFF M 18 7 v (by decide)
theorem mg_forced_fault (M : MT) (v : Int32) : mt_forced (ms_fault M v) = mt_forced M := mgFF M 18 8 v (by decide)
theorem mg_forced_sold (M : MT) (v : Nat → Int32) : mt_forced (ms_sold M v) = mt_forced M := mgFA M 18 4 v
theorem mg_forced_sells (M : MT) (v : Nat → Int32) : mt_forced (ms_sells M v) = mt_forced M := mgFA M 18 5 v
theorem mg_forced_fallen (M : MT) (v : Int32) : mt_forced (ms_fallen M v) = mt_forced M := mgFF M 18 9 v (by decide)
theorem mg_forced_willFall (M : MT) (v : Int32) : mt_forced (ms_willFall M v) = mt_forced M := mgFF M 18 10 v (by decide)
theorem mg_forced_rounds (M : MT) (v : Int32) : mt_forced (ms_rounds M v) = mt_forced M := mgFF M 18 11 v (by decide)
theorem mg_forced_coins (M : MT) (v : Nat → Int32) : mt_forced (ms_coins M v) = mt_forced M := mgFA M 18 6 v
theorem mg_forced_extraOf (M : MT) (v : Int32) : mt_forced (ms_extraOf M v) = mt_forced M := mgFF M 18 12 v (by decide)
theorem mg_forced_extraCap (M : MT) (v : Int32) : mt_forced (ms_extraCap M v) = mt_forced M := mgFF M 18 13 v (by decide)
theorem mg_forced_extraShock (M : MT) (v : Int32) : mt_forced (ms_extraShock M v) = mt_forced M := mgFF M 18 14 v (by decide)
theorem mg_forced_buyerOf (M : MT) (v : Int32) : mt_forced (ms_buyerOf M v) = mt_forced M := mgFF M 18 15 v (by decide)
theorem mg_forced_buys (M : MT) (v : Int32) : mt_forced (ms_buys M v) = mt_forced M := mgFF M 18 16 v (by decide)
theorem mg_forced_part (M : MT) (v : Int32) : mt_forced (ms_part M v) = mt_forced M := mgFF M 18 17 v (by decide)
theorem mg_forced_left (M : MT) (v : Nat → Int32) : mt_forced (ms_left M v) = mt_forced M := mgFA M 18 7 v
theorem mg_forced_prices (M : MT) (v : Nat → Int32) : mt_forced (ms_prices M v) = mt_forced M := mgFA M 18 8 v
theorem mg_forced_musts (M : MT) (v : Nat → Int32) : mt_forced (ms_musts M v) = mt_forced M := mgFA M 18 9 v
theorem mg_forced_fell (M : MT) (v : Nat → Int32) : mt_forced (ms_fell M v) = mt_forced M := mgFA M 18 10 v
theorem mg_forced_leastLost (M : MT) (v : Int32) : mt_forced (ms_leastLost M v) = mt_forced M := mgFF M 18 19 v (by decide)
theorem mg_forced_gifts (M : MT) (v : Nat → Int32) : mt_forced (ms_gifts M v) = mt_forced M := mgFA M 18 11 v
theorem mg_forced_bestGifts (M : MT) (v : Nat → Int32) : mt_forced (ms_bestGifts M v) = mt_forced M := mgFA M 18 12 v
theorem mg_forced_spelt (M : MT) (v : Nat → Int32) : mt_forced (ms_spelt M v) = mt_forced M := mgFA M 18 13 v
theorem mg_forced_speltMany (M : MT) (v : Int32) : mt_forced (ms_speltMany M v) = mt_forced M := mgFF M 18 20 v (by decide)
theorem me_left (M : MT) : ms_left M (mt_left M) = M := meA M 7
theorem me2_left (M : MT) (v : Nat → Int32) (h : v = mt_left M) : ms_left M v = M := by rw [h]; exact me_left M
theorem mgs_left (M : MT) (v : Nat → Int32) : mt_left (ms_left M v) = v := mgAs M 7 v
theorem mm_left (M : MT) (a b : Nat → Int32) : ms_left (ms_left M a) b = ms_left M b := mmA M 7 a b
theorem mg_left_thrown (M : MT) (v : Int32) : mt_left (ms_thrown M v) = mt_left M := mgAF M 7 0 v
theorem mg_left_now (M : MT) (v : Nat → Int32) : mt_left (ms_now M v) = mt_left M := mgAA M 7 0 v (by decide)
theorem mg_left_aside (M : MT) (v : Nat → Int32) : mt_left (ms_aside M v) = mt_left M := mgAA M 7 1 v (by decide)
theorem mg_left_undos (M : MT) (v : Nat → Int32) : mt_left (ms_undos M v) = mt_left M := mgAA M 7 2 v (by decide)
theorem mg_left_undoMany (M : MT) (v : Int32) : mt_left (ms_undoMany M v) = mt_left M := mgAF M 7 1 v
theorem mg_left_tape (M : MT) (v : Nat → Int32) : mt_left (ms_tape M v) = mt_left M := mgAA M 7 3 v (by decide)
theorem mg_left_taped (M : MT) (v : Int32) : mt_left (ms_taped M v) = mt_left M := mgAF M 7 2 v
theorem mg_left_size (M : MT) (v : Int32) : mt_left (ms_size M v) = mt_left M := mgAF M 7 3 v
theorem mg_left_at (M : MT) (v : Int32) : mt_left (ms_at M v) = mt_left M := mgAF M 7 4 v
theorem mg_left_token (M : MT) (v : Int32) : mt_left (ms_token M v) = mt_left M := mgAF M 7 5 v
theorem mg_left_from (M : MT) (v : Int32) : mt_left (ms_from M v) = mt_left M := mgAF M 7 6 v
theorem mg_left_value (M : MT) (v : Int32) : mt_left (ms_value M v) = mt_left M := mgAF M 7 7 v
theorem mg_left_fault (M : MT) (v : Int32) : mt_left (ms_fault M v) = mt_left M := mgAF M 7 8 v
theorem mg_left_sold (M : MT) (v : Nat → Int32) : mt_left (ms_sold M v) = mt_left M := mgAA M 7 4 v (by decide)
theorem mg_left_sells (M : MT) (v : Nat → Int32) : mt_left (ms_sells M v) = mt_left M := mgAA M 7 5 v (by decide)
theorem mg_left_fallen (M : MT) (v : Int32) : mt_left (ms_fallen M v) = mt_left M := mgAF M 7 9 v
theorem mg_left_willFall (M : MT) (v : Int32) : mt_left (ms_willFall M v) = mt_left M := mgAF M 7 10 v
theorem mg_left_rounds (M : MT) (v : Int32) : mt_left (ms_rounds M v) = mt_left M := mgAF M 7 11 v
theorem mg_left_coins (M : MT) (v : Nat → Int32) : mt_left (ms_coins M v) = mt_left M := mgAA M 7 6 v (by decide)
theorem mg_left_extraOf (M : MT) (v : Int32) : mt_left (ms_extraOf M v) = mt_left M := mgAF M 7 12 v
theorem mg_left_extraCap (M : MT) (v : Int32) : mt_left (ms_extraCap M v) = mt_left M := mgAF M 7 13 v
theorem mg_left_extraShock (M : MT) (v : Int32) : mt_left (ms_extraShock M v) = mt_left M := mgAF M 7 14 v
theorem mg_left_buyerOf (M : MT) (v : Int32) : mt_left (ms_buyerOf M v) = mt_left M := mgAF M 7 15 v
theorem mg_left_buys (M : MT) (v : Int32) : mt_left (ms_buys M v) = mt_left M := mgAF M 7 16 v
theorem mg_left_part (M : MT) (v : Int32) : mt_left (ms_part M v) = mt_left M := mgAF M 7 17 v
theorem mg_left_forced (M : MT) (v : Int32) : mt_left (ms_forced M v) = mt_left M := mgAF M 7 18 v
theorem mg_left_prices (M : MT) (v : Nat → Int32) : mt_left (ms_prices M v) = mt_left M := mgAA M 7 8 v (by decide)
theorem mg_left_musts (M : MT) (v : Nat → Int32) : mt_left (ms_musts M v) = mt_left M := mgAA M 7 9 v (by decide)
theorem mg_left_fell (M : MT) (v : Nat → Int32) : mt_left (ms_fell M v) = mt_left M := mgAA M 7 10 v (by decide)
theorem mg_left_leastLost (M : MT) (v : Int32) : mt_left (ms_leastLost M v) = mt_left M := mgAF M 7 19 v
theorem mg_left_gifts (M : MT) (v : Nat → Int32) : mt_left (ms_gifts M v) = mt_left M := mgAA M 7 11 v (by decide)
theorem mg_left_bestGifts (M : MT) (v : Nat → Int32) : mt_left (ms_bestGifts M v) = mt_left M := mgAA M 7 12 v (by decide)
theorem mg_left_spelt (M : MT) (v : Nat → Int32) : mt_left (ms_spelt M v) = mt_left M := mgAA M 7 13 v (by decide)
theorem mg_left_speltMany (M : MT) (v : Int32) : mt_left (ms_speltMany M v) = mt_left M := mgAF M 7 20 v
theorem me_prices (M : MT) : ms_prices M (mt_prices M) = M := meA M 8
theorem me2_prices (M : MT) (v : Nat → Int32) (h : v = mt_prices M) : ms_prices M v = M := by rw [h]; exact me_prices M
theorem mgs_prices (M : MT) (v : Nat → Int32) : mt_prices (ms_prices M v) = v := mgAs M 8 v
theorem mm_prices (M : MT) (a b : Nat → Int32) : ms_prices (ms_prices M a) b = ms_prices M b := mmA M 8 a b
theorem mg_prices_thrown (M : MT) (v : Int32) : mt_prices (ms_thrown M v) = mt_prices M := mgAF M 8 0 v
theorem mg_prices_now (M : MT) (v : Nat → Int32) : mt_prices (ms_now M v) = mt_prices M := mgAA M 8 0 v (by decide)
theorem mg_prices_aside (M : MT) (v : Nat → Int32) : mt_prices (ms_aside M v) = mt_prices M := mgAA M 8 1 v (by decide)
theorem mg_prices_undos (M : MT) (v : Nat → Int32) : mt_prices (ms_undos M v) = mt_prices M := mgAA M 8 2 v (by decide)
theorem mg_prices_undoMany (M : MT) (v : Int32) : mt_prices (ms_undoMany M v) = mt_prices M := mgAF M 8 1 v
theorem mg_prices_tape (M : MT) (v : Nat → Int32) : mt_prices (ms_tape M v) = mt_prices M := mgAA M 8 3 v (by decide)
theorem mg_prices_taped (M : MT) (v : Int32) : mt_prices (ms_taped M v) = mt_prices M := mgAF M 8 2 v
theorem mg_prices_size (M : MT) (v : Int32) : mt_prices (ms_size M v) = mt_prices M := mgAF M 8 3 v
theorem mg_prices_at (M : MT) (v : Int32) : mt_prices (ms_at M v) = mt_prices M := mgAF M 8 4 v
theorem mg_prices_token (M : MT) (v : Int32) : mt_prices (ms_token M v) = mt_prices M := mgAF M 8 5 v
theorem mg_prices_from (M : MT) (v : Int32) : mt_prices (ms_from M v) = mt_prices M := mgAF M 8 6 v
theorem mg_prices_value (M : MT) (v : Int32) : mt_prices (ms_value M v) = mt_prices M := mgAF M 8 7 v
theorem mg_prices_fault (M : MT) (v : Int32) : mt_prices (ms_fault M v) = mt_prices M := mgAF M 8 8 v
theorem mg_prices_sold (M : MT) (v : Nat → Int32) : mt_prices (ms_sold M v) = mt_prices M := mgAA M 8 4 v (by decide)
theorem mg_prices_sells (M : MT) (v : Nat → Int32) : mt_prices (ms_sells M v) = mt_prices M := mgAA M 8 5 v (by decide)
theorem mg_prices_fallen (M : MT) (v : Int32) : mt_prices (ms_fallen M v) = mt_prices M := mgAF M 8 9 v
theorem mg_prices_willFall (M : MT) (v : Int32) : mt_prices (ms_willFall M v) = mt_prices M := mgAF M 8 10 v
theorem mg_prices_rounds (M : MT) (v : Int32) : mt_prices (ms_rounds M v) = mt_prices M := mgAF M 8 11 v
theorem mg_prices_coins (M : MT) (v : Nat → Int32) : mt_prices (ms_coins M v) = mt_prices M := mgAA M 8 6 v (by decide)
theorem mg_prices_extraOf (M : MT) (v : Int32) : mt_prices (ms_extraOf M v) = mt_prices M := mgAF M 8 12 v
theorem mg_prices_extraCap (M : MT) (v : Int32) : mt_prices (ms_extraCap M v) = mt_prices M := mgAF M 8 13 v
theorem mg_prices_extraShock (M : MT) (v : Int32) : mt_prices (ms_extraShock M v) = mt_prices M := mgAF M 8 14 v
theorem mg_prices_buyerOf (M : MT) (v : Int32) : mt_prices (ms_buyerOf M v) = mt_prices M := mgAF M 8 15 v
theorem mg_prices_buys (M : MT) (v : Int32) : mt_prices (ms_buys M v) = mt_prices M := mgAF M 8 16 v
theorem mg_prices_part (M : MT) (v : Int32) : mt_prices (ms_part M v) = mt_prices M := mgAF M 8 17 v
theorem mg_prices_forced (M : MT) (v : Int32) : mt_prices (ms_forced M v) = mt_prices M := mgAF M 8 18 v
theorem mg_prices_left (M : MT) (v : Nat → Int32) : mt_prices (ms_left M v) = mt_prices M := mgAA M 8 7 v (by decide)
theorem mg_prices_musts (M : MT) (v : Nat → Int32) : mt_prices (ms_musts M v) = mt_prices M := mgAA M 8 9 v (by decide)
theorem mg_prices_fell (M : MT) (v : Nat → Int32) : mt_prices (ms_fell M v) = mt_prices M := mgAA M 8 10 v (by decide)
theorem mg_prices_leastLost (M : MT) (v : Int32) : mt_prices (ms_leastLost M v) = mt_prices M := mgAF M 8 19 v
theorem mg_prices_gifts (M : MT) (v : Nat → Int32) : mt_prices (ms_gifts M v) = mt_prices M := mgAA M 8 11 v (by decide)
theorem mg_prices_bestGifts (M : MT) (v : Nat → Int32) : mt_prices (ms_bestGifts M v) = mt_prices M := mgAA M 8 12 v (by decide)
theorem mg_prices_spelt (M : MT) (v : Nat → Int32) : mt_prices (ms_spelt M v) = mt_prices M := mgAA M 8 13 v (by decide)
theorem mg_prices_speltMany (M : MT) (v : Int32) : mt_prices (ms_speltMany M v) = mt_prices M := mgAF M 8 20 v
theorem me_musts (M : MT) : ms_musts M (mt_musts M) = M := meA M 9
theorem me2_musts (M : MT) (v : Nat → Int32) (h : v = mt_musts M) : ms_musts M v = M := by rw [h]; exact me_musts M
theorem mgs_musts (M : MT) (v : Nat → Int32) : mt_musts (ms_musts M v) = v := mgAs M 9 v
theorem mm_musts (M : MT) (a b : Nat → Int32) : ms_musts (ms_musts M a) b = ms_musts M b := mmA M 9 a b
theorem mg_musts_thrown (M : MT) (v : Int32) : mt_musts (ms_thrown M v) = mt_musts M := mgAF M 9 0 v
theorem mg_musts_now (M : MT) (v : Nat → Int32) : mt_musts (ms_now M v) = mt_musts M := mgAA M 9 0 v (by decide)
theorem mg_musts_aside (M : MT) (v : Nat → Int32) : mt_musts (ms_aside M v) = mt_musts M := mgAA M 9 1 v (by decide)
theorem mg_musts_undos (M : MT) (v : Nat → Int32) : mt_musts (ms_undos M v) = mt_musts M := mgAA M 9 2 v (by decide)
theorem mg_musts_undoMany (M : MT) (v : Int32) : mt_musts (ms_undoMany M v) = mt_musts M := mgAF M 9 1 v
theorem mg_musts_tape (M : MT) (v : Nat → Int32) : mt_musts (ms_tape M v) = mt_musts M := mgAA M 9 3 v (by decide)
theorem mg_musts_taped (M : MT) (v : Int32) : mt_musts (ms_taped M v) = mt_musts M := mgAF M 9 2 v
theorem mg_musts_size (M : MT) (v : Int32) : mt_musts (ms_size M v) = mt_musts M := mgAF M 9 3 v
theorem mg_musts_at (M : MT) (v : Int32) : mt_musts (ms_at M v) = mt_musts M := mgAF M 9 4 v
theorem mg_musts_token (M : MT) (v : Int32) : mt_musts (ms_token M v) = mt_musts M := mgAF M 9 5 v
theorem mg_musts_from (M : MT) (v : Int32) : mt_musts (ms_from M v) = mt_musts M := mgAF M 9 6 v
theorem mg_musts_value (M : MT) (v : Int32) : mt_musts (ms_value M v) = mt_musts M := mgAF M 9 7 v
theorem mg_musts_fault (M : MT) (v : Int32) : mt_musts (ms_fault M v) = mt_musts M := mgAF M 9 8 v
theorem mg_musts_sold (M : MT) (v : Nat → Int32) : mt_musts (ms_sold M v) = mt_musts M := mgAA M 9 4 v (by decide)
theorem mg_musts_sells (M : MT) (v : Nat → Int32) : mt_musts (ms_sells M v) = mt_musts M := mgAA M 9 5 v (by decide)
theorem mg_musts_fallen (M : MT) (v : Int32) : mt_musts (ms_fallen M v) = mt_musts M := mgAF M 9 9 v
theorem mg_musts_willFall (M : MT) (v : Int32) : mt_musts (ms_willFall M v) = mt_musts M := mgAF M 9 10 v
theorem mg_musts_rounds (M : MT) (v : Int32) : mt_musts (ms_rounds M v) = mt_musts M := mgAF M 9 11 v
theorem mg_musts_coins (M : MT) (v : Nat → Int32) : mt_musts (ms_coins M v) = mt_musts M := mgAA M 9 6 v (by decide)
theorem mg_musts_extraOf (M : MT) (v : Int32) : mt_musts (ms_extraOf M v) = mt_musts M := mgAF M 9 12 v
theorem mg_musts_extraCap (M : MT) (v : Int32) : mt_musts (ms_extraCap M v) = mt_musts M := mgAF M 9 13 v
theorem mg_musts_extraShock (M : MT) (v : Int32) : mt_musts (ms_extraShock M v) = mt_musts M := mgAF M 9 14 v
theorem mg_musts_buyerOf (M : MT) (v : Int32) : mt_musts (ms_buyerOf M v) = mt_musts M := mgAF M 9 15 v
theorem mg_musts_buys (M : MT) (v : Int32) : mt_musts (ms_buys M v) = mt_musts M := mgAF M 9 16 v
theorem mg_musts_part (M : MT) (v : Int32) : mt_musts (ms_part M v) = mt_musts M := mgAF M 9 17 v
theorem mg_musts_forced (M : MT) (v : Int32) : mt_musts (ms_forced M v) = mt_musts M := mgAF M 9 18 v
theorem mg_musts_left (M : MT) (v : Nat → Int32) : mt_musts (ms_left M v) = mt_musts M := mgAA M 9 7 v (by decide)
theorem mg_musts_prices (M : MT) (v : Nat → Int32) : mt_musts (ms_prices M v) = mt_musts M := mgAA M 9 8 v (by decide)
theorem mg_musts_fell (M : MT) (v : Nat → Int32) : mt_musts (ms_fell M v) = mt_musts M := mgAA M 9 10 v (by decide)
theorem mg_musts_leastLost (M : MT) (v : Int32) : mt_musts (ms_leastLost M v) = mt_musts M := mgAF M 9 19 v
theorem mg_musts_gifts (M : MT) (v : Nat → Int32) : mt_musts (ms_gifts M v) = mt_musts M := mgAA M 9 11 v (by decide)
theorem mg_musts_bestGifts (M : MT) (v : Nat → Int32) : mt_musts (ms_bestGifts M v) = mt_musts M := mgAA M 9 12 v (by decide)
theorem mg_musts_spelt (M : MT) (v : Nat → Int32) : mt_musts (ms_spelt M v) = mt_musts M := mgAA M 9 13 v (by decide)
theorem mg_musts_speltMany (M : MT) (v : Int32) : mt_musts (ms_speltMany M v) = mt_musts M := mgAF M 9 20 v
theorem me_fell (M : MT) : ms_fell M (mt_fell M) = M := meA M 10
theorem me2_fell (M : MT) (v : Nat → Int32) (h : v = mt_fell M) : ms_fell M v = M := by rw [h]; exact me_fell M
theorem mgs_fell (M : MT) (v : Nat → Int32) : mt_fell (ms_fell M v) = v := mgAs M 10 v
theorem mm_fell (M : MT) (a b : Nat → Int32) : ms_fell (ms_fell M a) b = ms_fell M b := mmA M 10 a b
theorem mg_fell_thrown (M : MT) (v : Int32) : mt_fell (ms_thrown M v) = mt_fell M := mgAF M 10 0 v
theorem mg_fell_now (M : MT) (v : Nat → Int32) : mt_fell (ms_now M v) = mt_fell M := mgAA M 10 0 v (by decide)
theorem mg_fell_aside (M : MT) (v : Nat → Int32) : mt_fell (ms_aside M v) = mt_fell M := mgAA M 10 1 v (by decide)
theorem mg_fell_undos (M : MT) (v : Nat → Int32) : mt_fell (ms_undos M v) = mt_fell M := mgAA M 10 2 v (by decide)
theorem mg_fell_undoMany (M : MT) (v : Int32) : mt_fell (ms_undoMany M v) = mt_fell M := mgAF M 10 1 v
theorem mg_fell_tape (M : MT) (v : Nat → Int32) : mt_fell (ms_tape M v) = mt_fell M := mgAA M 10 3 v (by decide)
theorem mg_fell_taped (M : MT) (v : Int32) : mt_fell (ms_taped M v) = mt_fell M := mgAF M 10 2 v
theorem mg_fell_size (M : MT) (v : Int32) : mt_fell (ms_size M v) = mt_fell M := mgAF M 10 3 v
theorem mg_fell_at (M : MT) (v : Int32) : mt_fell (ms_at M v) = mt_fell M := mgAF M 10 4 v
theorem mg_fell_token (M : MT) (v : Int32) : mt_fell (ms_token M v) = mt_fell M := mgAF M 10 5 v
theorem mg_fell_from (M : MT) (v : Int32) : mt_fell (ms_from M v) = mt_fell M := mgAF M 10 6 v
theorem mg_fell_value (M : MT) (v : Int32) : mt_fell (ms_value M v) = mt_fell M := mgAF M 10 7 v
theorem mg_fell_fault (M : MT) (v : Int32) : mt_fell (ms_fault M v) = mt_fell M := mgAF M 10 8 v
theorem mg_fell_sold (M : MT) (v : Nat → Int32) : mt_fell (ms_sold M v) = mt_fell M := mgAA M 10 4 v (by decide)
theorem mg_fell_sells (M : MT) (v : Nat → Int32) : mt_fell (ms_sells M v) = mt_fell M := mgAA M 10 5 v (by decide)
theorem mg_fell_fallen (M : MT) (v : Int32) : mt_fell (ms_fallen M v) = mt_fell M := mgAF M 10 9 v
theorem mg_fell_willFall (M : MT) (v : Int32) : mt_fell (ms_willFall M v) = mt_fell M := mgAF M 10 10 v
theorem mg_fell_rounds (M : MT) (v : Int32) : mt_fell (ms_rounds M v) = mt_fell M := mgAF M 10 11 v
theorem mg_fell_coins (M : MT) (v : Nat → Int32) : mt_fell (ms_coins M v) = mt_fell M := mgAA M 10 6 v (by decide)
theorem mg_fell_extraOf (M : MT) (v : Int32) : mt_fell (ms_extraOf M v) = mt_fell M := mgAF M 10 12 v
theorem mg_fell_extraCap (M : MT) (v : Int32) : mt_fell (ms_extraCap M v) = mt_fell M := mgAF M 10 13 v
theorem mg_fell_extraShock (M : MT) (v : Int32) : mt_fell (ms_extraShock M v) = mt_fell M := mgAF M 10 14 v
theorem mg_fell_buyerOf (M : MT) (v : Int32) : mt_fell (ms_buyerOf M v) = mt_fell M := mgAF M 10 15 v
theorem mg_fell_buys (M : MT) (v : Int32) : mt_fell (ms_buys M v) = mt_fell M := mgAF M 10 16 v
theorem mg_fell_part (M : MT) (v : Int32) : mt_fell (ms_part M v) = mt_fell M := mgAF M 10 17 v
theorem mg_fell_forced (M : MT) (v : Int32) : mt_fell (ms_forced M v) = mt_fell M := mgAF M 10 18 v
theorem mg_fell_left (M : MT) (v : Nat → Int32) : mt_fell (ms_left M v) = mt_fell M := mgAA M 10 7 v (by decide)
theorem mg_fell_prices (M : MT) (v : Nat → Int32) : mt_fell (ms_prices M v) = mt_fell M := mgAA M 10 8 v (by decide)
theorem mg_fell_musts (M : MT) (v : Nat → Int32) : mt_fell (ms_musts M v) = mt_fell M := mgAA M 10 9 v (by decide)
theorem mg_fell_leastLost (M : MT) (v : Int32) : mt_fell (ms_leastLost M v) = mt_fell M := mgAF M 10 19 v
theorem mg_fell_gifts (M : MT) (v : Nat → Int32) : mt_fell (ms_gifts M v) = mt_fell M := mgAA M 10 11 v (by decide)
theorem mg_fell_bestGifts (M : MT) (v : Nat → Int32) : mt_fell (ms_bestGifts M v) = mt_fell M := mgAA M 10 12 v (by decide)
theorem mg_fell_spelt (M : MT) (v : Nat → Int32) : mt_fell (ms_spelt M v) = mt_fell M := mgAA M 10 13 v (by decide)
theorem mg_fell_speltMany (M : MT) (v : Int32) : mt_fell (ms_speltMany M v) = mt_fell M := mgAF M 10 20 v
theorem me_leastLost (M : MT) : ms_leastLost M (mt_leastLost M) = M := meF M 19
theorem me2_leastLost (M : MT) (v : Int32) (h : v = mt_leastLost M) : ms_leastLost M v = M := by rw [h]; exact me_leastLost M
theorem mgs_leastLost (M : MT) (v : Int32) : mt_leastLost (ms_leastLost M v) = v := mgFs M 19 v
theorem mm_leastLost (M : MT) (a b : Int32) : ms_leastLost (ms_leastLost M a) b = ms_leastLost M b := mmF M 19 a b
theorem mg_leastLost_thrown (M : MT) (v : Int32) : mt_leastLost (ms_thrown M v) = mt_leastLost M := mgFF M 19 0 v (by decide)
theorem mg_leastLost_now (M : MT) (v : Nat → Int32) : mt_leastLost (ms_now M v) = mt_leastLost M := mgFA M 19 0 v
theorem mg_leastLost_aside (M : MT) (v : Nat → Int32) : mt_leastLost (ms_aside M v) = mt_leastLost M := mgFA M 19 1 v
theorem mg_leastLost_undos (M : MT) (v : Nat → Int32) : mt_leastLost (ms_undos M v) = mt_leastLost M := mgFA M 19 2 v
theorem mg_leastLost_undoMany (M : MT) (v : Int32) : mt_leastLost (ms_undoMany M v) = mt_leastLost M := mgFF M 19 1 v (by decide)
theorem mg_leastLost_tape (M : MT) (v : Nat → Int32) : mt_leastLost (ms_tape M v) = mt_leastLost M := mgFA M 19 3 v
theorem mg_leastLost_taped (M : MT) (v : Int32) : mt_leastLost (ms_taped M v) = mt_leastLost M := mgFF M 19 2 v (by decide)
theorem mg_leastLost_size (M : MT) (v : Int32) : mt_leastLost (ms_size M v) = mt_leastLost M := mgFF M 19 3 v (by decide)
theorem mg_leastLost_at (M : MT) (v : Int32) : mt_leastLost (ms_at M v) = mt_leastLost M := mgFF M 19 4 v (by decide)
theorem mg_leastLost_token (M : MT) (v : Int32) : mt_leastLost (ms_token M v) = mt_leastLost M := mgFF M 19 5 v (by decide)
theorem mg_leastLost_from (M : MT) (v : Int32) : mt_leastLost (ms_from M v) = mt_leastLost M := mgFF M 19 6 v (by decide)
theorem mg_leastLost_value (M : MT) (v : Int32) : mt_leastLost (ms_value M v) = mt_leastLost M := mgFF M 19 7 v (by decide)
theorem mg_leastLost_fault (M : MT) (v : Int32) : mt_leastLost (ms_fault M v) = mt_leastLost M := mgFF M 19 8 v (by decide)
theorem mg_leastLost_sold (M : MT) (v : Nat → Int32) : mt_leastLost (ms_sold M v) = mt_leastLost M := mgFA M 19 4 v
theorem mg_leastLost_sells (M : MT) (v : Nat → Int32) : mt_leastLost (ms_sells M v) = mt_leastLost M := mgFA M 19 5 v
theorem mg_leastLost_fallen (M : MT) (v : Int32) : mt_leastLost (ms_fallen M v) = mt_leastLost M := mgFF M 19 9 v (by decide)
theorem mg_leastLost_willFall (M : MT) (v : Int32) : mt_leastLost (ms_willFall M v) = mt_leastLost M := mgFF M 19 10 v (by decide)
theorem mg_leastLost_rounds (M : MT) (v : Int32) : mt_leastLost (ms_rounds M v) = mt_leastLost M := mgFF M 19 11 v (by decide)
theorem mg_leastLost_coins (M : MT) (v : Nat → Int32) : mt_leastLost (ms_coins M v) = mt_leastLost M := mgFA M 19 6 v
theorem mg_leastLost_extraOf (M : MT) (v : Int32) : mt_leastLost (ms_extraOf M v) = mt_leastLost M := mgFF M 19 12 v (by decide)
theorem mg_leastLost_extraCap (M : MT) (v : Int32) : mt_leastLost (ms_extraCap M v) = mt_leastLost M := mgFF M 19 13 v (by decide)
theorem mg_leastLost_extraShock (M : MT) (v : Int32) : mt_leastLost (ms_extraShock M v) = mt_leastLost M := mgFF M 19 14 v (by decide)
theorem mg_leastLost_buyerOf (M : MT) (v : Int32) : mt_leastLost (ms_buyerOf M v) = mt_leastLost M := mgFF M 19 15 v (by decide)
theorem mg_leastLost_buys (M : MT) (v : Int32) : mt_leastLost (ms_buys M v) = mt_leastLost M := mgFF M 19 16 v (by decide)
theorem mg_leastLost_part (M : MT) (v : Int32) : mt_leastLost (ms_part M v) = mt_leastLost M := mgFF M 19 17 v (by decide)
theorem mg_leastLost_forced (M : MT) (v : Int32) : mt_leastLost (ms_forced M v) = mt_leastLost M := mgFF M 19 18 v (by decide)
theorem mg_leastLost_left (M : MT) (v : Nat → Int32) : mt_leastLost (ms_left M v) = mt_leastLost M := mgFA M 19 7 v
theorem mg_leastLost_prices (M : MT) (v : Nat → Int32) : mt_leastLost (ms_prices M v) = mt_leastLost M := mgFA M 19 8 v
theorem mg_leastLost_musts (M : MT) (v : Nat → Int32) : mt_leastLost (ms_musts M v) = mt_leastLost M := mgFA M 19 9 v
theorem mg_leastLost_fell (M : MT) (v : Nat → Int32) : mt_leastLost (ms_fell M v) = mt_leastLost M := mgFA M 19 10 v
theorem mg_leastLost_gifts (M : MT) (v : Nat → Int32) : mt_leastLost (ms_gifts M v) = mt_leastLost M := mgFA M 19 11 v
theorem mg_leastLost_bestGifts (M : MT) (v : Nat → Int32) : mt_leastLost (ms_bestGifts M v) = mt_leastLost M := mgFA M 19 12 v
theorem mg_leastLost_spelt (M : MT) (v : Nat → Int32) : mt_leastLost (ms_spelt M v) = mt_leastLost M := mgFA M 19 13 v
theorem mg_leastLost_speltMany (M : MT) (v : Int32) : mt_leastLost (ms_speltMany M v) = mt_leastLost M := mgFF M 19 20 v (by decide)
theorem me_gifts (M : MT) : ms_gifts M (mt_gifts M) = M := meA M 11
theorem me2_gifts (M : MT) (v : Nat → Int32) (h : v = mt_gifts M) : ms_gifts M v = M := by rw [h]; exact me_gifts M
theorem mgs_gifts (M : MT) (v : Nat → Int32) : mt_gifts (ms_gifts M v) = v := mgAs M 11 v
theorem mm_gifts (M : MT) (a b : Nat → Int32) : ms_gifts (ms_gifts M a) b = ms_gifts M b := mmA M 11 a b
theorem mg_gifts_thrown (M : MT) (v : Int32) : mt_gifts (ms_thrown M v) = mt_gifts M := mgAF M 11 0 v
theorem mg_gifts_now (M : MT) (v : Nat → Int32) : mt_gifts (ms_now M v) = mt_gifts M := mgAA M 11 0 v (by decide)
theorem mg_gifts_aside (M : MT) (v : Nat → Int32) : mt_gifts (ms_aside M v) = mt_gifts M := mgAA M 11 1 v (by decide)
theorem mg_gifts_undos (M : MT) (v : Nat → Int32) : mt_gifts (ms_undos M v) = mt_gifts M := mgAA M 11 2 v (by decide)
theorem mg_gifts_undoMany (M : MT) (v : Int32) : mt_gifts (ms_undoMany M v) = mt_gifts M := mgAF M 11 1 v
theorem mg_gifts_tape (M : MT) (v : Nat → Int32) : mt_gifts (ms_tape M v) = mt_gifts M := mgAA M 11 3 v (by decide)
theorem mg_gifts_taped (M : MT) (v : Int32) : mt_gifts (ms_taped M v) = mt_gifts M := mgAF M 11 2 v
theorem mg_gifts_size (M : MT) (v : Int32) : mt_gifts (ms_size M v) = mt_gifts M := mgAF M 11 3 v
theorem mg_gifts_at (M : MT) (v : Int32) : mt_gifts (ms_at M v) = mt_gifts M := mgAF M 11 4 v
theorem mg_gifts_token (M : MT) (v : Int32) : mt_gifts (ms_token M v) = mt_gifts M := mgAF M 11 5 v
theorem mg_gifts_from (M : MT) (v : Int32) : mt_gifts (ms_from M v) = mt_gifts M := mgAF M 11 6 v
theorem mg_gifts_value (M : MT) (v : Int32) : mt_gifts (ms_value M v) = mt_gifts M := mgAF M 11 7 v
theorem mg_gifts_fault (M : MT) (v : Int32) : mt_gifts (ms_fault M v) = mt_gifts M := mgAF M 11 8 v
theorem mg_gifts_sold (M : MT) (v : Nat → Int32) : mt_gifts (ms_sold M v) = mt_gifts M := mgAA M 11 4 v (by decide)
theorem mg_gifts_sells (M : MT) (v : Nat → Int32) : mt_gifts (ms_sells M v) = mt_gifts M := mgAA M 11 5 v (by decide)
theorem mg_gifts_fallen (M : MT) (v : Int32) : mt_gifts (ms_fallen M v) = mt_gifts M := mgAF M 11 9 v
theorem mg_gifts_willFall (M : MT) (v : Int32) : mt_gifts (ms_willFall M v) = mt_gifts M := mgAF M 11 10 v
theorem mg_gifts_rounds (M : MT) (v : Int32) : mt_gifts (ms_rounds M v) = mt_gifts M := mgAF M 11 11 v
theorem mg_gifts_coins (M : MT) (v : Nat → Int32) : mt_gifts (ms_coins M v) = mt_gifts M := mgAA M 11 6 v (by decide)
theorem mg_gifts_extraOf (M : MT) (v : Int32) : mt_gifts (ms_extraOf M v) = mt_gifts M := mgAF M 11 12 v
theorem mg_gifts_extraCap (M : MT) (v : Int32) : mt_gifts (ms_extraCap M v) = mt_gifts M := mgAF M 11 13 v
theorem mg_gifts_extraShock (M : MT) (v : Int32) : mt_gifts (ms_extraShock M v) = mt_gifts M := mgAF M 11 14 v
theorem mg_gifts_buyerOf (M : MT) (v : Int32) : mt_gifts (ms_buyerOf M v) = mt_gifts M := mgAF M 11 15 v
theorem mg_gifts_buys (M : MT) (v : Int32) : mt_gifts (ms_buys M v) = mt_gifts M := mgAF M 11 16 v
theorem mg_gifts_part (M : MT) (v : Int32) : mt_gifts (ms_part M v) = mt_gifts M := mgAF M 11 17 v
theorem mg_gifts_forced (M : MT) (v : Int32) : mt_gifts (ms_forced M v) = mt_gifts M := mgAF M 11 18 v
theorem mg_gifts_left (M : MT) (v : Nat → Int32) : mt_gifts (ms_left M v) = mt_gifts M := mgAA M 11 7 v (by decide)
theorem mg_gifts_prices (M : MT) (v : Nat → Int32) : mt_gifts (ms_prices M v) = mt_gifts M := mgAA M 11 8 v (by decide)
theorem mg_gifts_musts (M : MT) (v : Nat → Int32) : mt_gifts (ms_musts M v) = mt_gifts M := mgAA M 11 9 v (by decide)
theorem mg_gifts_fell (M : MT) (v : Nat → Int32) : mt_gifts (ms_fell M v) = mt_gifts M := mgAA M 11 10 v (by decide)
theorem mg_gifts_leastLost (M : MT) (v : Int32) : mt_gifts (ms_leastLost M v) = mt_gifts M := mgAF M 11 19 v
theorem mg_gifts_bestGifts (M : MT) (v : Nat → Int32) : mt_gifts (ms_bestGifts M v) = mt_gifts M := mgAA M 11 12 v (by decide)
theorem mg_gifts_spelt (M : MT) (v : Nat → Int32) : mt_gifts (ms_spelt M v) = mt_gifts M := mgAA M 11 13 v (by decide)
theorem mg_gifts_speltMany (M : MT) (v : Int32) : mt_gifts (ms_speltMany M v) = mt_gifts M := mgAF M 11 20 v
theorem me_bestGifts (M : MT) : ms_bestGifts M (mt_bestGifts M) = M := meA M 12
theorem me2_bestGifts (M : MT) (v : Nat → Int32) (h : v = mt_bestGifts M) : ms_bestGifts M v = M := by rw [h]; exact me_bestGifts M
theorem mgs_bestGifts (M : MT) (v : Nat → Int32) : mt_bestGifts (ms_bestGifts M v) = v := mgAs M 12 v
theorem mm_bestGifts (M : MT) (a b : Nat → Int32) : ms_bestGifts (ms_bestGifts M a) b = ms_bestGifts M b := mmA M 12 a b
theorem mg_bestGifts_thrown (M : MT) (v : Int32) : mt_bestGifts (ms_thrown M v) = mt_bestGifts M := mgAF M 12 0 v
theorem mg_bestGifts_now (M : MT) (v : Nat → Int32) : mt_bestGifts (ms_now M v) = mt_bestGifts M := mgAA M 12 0 v (by decide)
theorem mg_bestGifts_aside (M : MT) (v : Nat → Int32) : mt_bestGifts (ms_aside M v) = mt_bestGifts M := mgAA M 12 1 v (by decide)
theorem mg_bestGifts_undos (M : MT) (v : Nat → Int32) : mt_bestGifts (ms_undos M v) = mt_bestGifts M := mgAA M 12 2 v (by decide)
theorem mg_bestGifts_undoMany (M : MT) (v : Int32) : mt_bestGifts (ms_undoMany M v) = mt_bestGifts M := mgAF M 12 1 v
theorem mg_bestGifts_tape (M : MT) (v : Nat → Int32) : mt_bestGifts (ms_tape M v) = mt_bestGifts M := mgAA M 12 3 v (by decide)
theorem mg_bestGifts_taped (M : MT) (v : Int32) : mt_bestGifts (ms_taped M v) = mt_bestGifts M := mgAF M 12 2 v
theorem mg_bestGifts_size (M : MT) (v : Int32) : mt_bestGifts (ms_size M v) = mt_bestGifts M := mgAF M 12 3 v
theorem mg_bestGifts_at (M : MT) (v : Int32) : mt_bestGifts (ms_at M v) = mt_bestGifts M := mgAF M 12 4 v
theorem mg_bestGifts_token (M : MT) (v : Int32) : mt_bestGifts (ms_token M v) = mt_bestGifts M := mgAF M 12 5 v
theorem mg_bestGifts_from (M : MT) (v : Int32) : mt_bestGifts (ms_from M v) = mt_bestGifts M := mgAF M 12 6 v
theorem mg_bestGifts_value (M : MT) (v : Int32) : mt_bestGifts (ms_value M v) = mt_bestGifts M := mgAF M 12 7 v
theorem mg_bestGifts_fault (M : MT) (v : Int32) : mt_bestGifts (ms_fault M v) = mt_bestGifts M := mgAF M 12 8 v
theorem mg_bestGifts_sold (M : MT) (v : Nat → Int32) : mt_bestGifts (ms_sold M v) = mt_bestGifts M := mgAA M 12 4 v (by decide)
theorem mg_bestGifts_sells (M : MT) (v : Nat → Int32) : mt_bestGifts (ms_sells M v) = mt_bestGifts M := mgAA M 12 5 v (by decide)
theorem mg_bestGifts_fallen (M : MT) (v : Int32) : mt_bestGifts (ms_fallen M v) = mt_bestGifts M := mgAF M 12 9 v
theorem mg_bestGifts_willFall (M : MT) (v : Int32) : mt_bestGifts (ms_willFall M v) = mt_bestGifts M := mgAF M 12 10 v
theorem mg_bestGifts_rounds (M : MT) (v : Int32) : mt_bestGifts (ms_rounds M v) = mt_bestGifts M := mgAF M 12 11 v
theorem mg_bestGifts_coins (M : MT) (v : Nat → Int32) : mt_bestGifts (ms_coins M v) = mt_bestGifts M := mgAA M 12 6 v (by decide)
theorem mg_bestGifts_extraOf (M : MT) (v : Int32) : mt_bestGifts (ms_extraOf M v) = mt_bestGifts M := mgAF M 12 12 v
theorem mg_bestGifts_extraCap (M : MT) (v : Int32) : mt_bestGifts (ms_extraCap M v) = mt_bestGifts M := mgAF M 12 13 v
theorem mg_bestGifts_extraShock (M : MT) (v : Int32) : mt_bestGifts (ms_extraShock M v) = mt_bestGifts M := mgAF M 12 14 v
theorem mg_bestGifts_buyerOf (M : MT) (v : Int32) : mt_bestGifts (ms_buyerOf M v) = mt_bestGifts M := mgAF M 12 15 v
theorem mg_bestGifts_buys (M : MT) (v : Int32) : mt_bestGifts (ms_buys M v) = mt_bestGifts M := mgAF M 12 16 v
theorem mg_bestGifts_part (M : MT) (v : Int32) : mt_bestGifts (ms_part M v) = mt_bestGifts M := mgAF M 12 17 v
theorem mg_bestGifts_forced (M : MT) (v : Int32) : mt_bestGifts (ms_forced M v) = mt_bestGifts M := mgAF M 12 18 v
theorem mg_bestGifts_left (M : MT) (v : Nat → Int32) : mt_bestGifts (ms_left M v) = mt_bestGifts M := mgAA M 12 7 v (by decide)
theorem mg_bestGifts_prices (M : MT) (v : Nat → Int32) : mt_bestGifts (ms_prices M v) = mt_bestGifts M := mgAA M 12 8 v (by decide)
theorem mg_bestGifts_musts (M : MT) (v : Nat → Int32) : mt_bestGifts (ms_musts M v) = mt_bestGifts M := mgAA M 12 9 v (by decide)
theorem mg_bestGifts_fell (M : MT) (v : Nat → Int32) : mt_bestGifts (ms_fell M v) = mt_bestGifts M := mgAA M 12 10 v (by decide)
theorem mg_bestGifts_leastLost (M : MT) (v : Int32) : mt_bestGifts (ms_leastLost M v) = mt_bestGifts M := mgAF M 12 19 v
theorem mg_bestGifts_gifts (M : MT) (v : Nat → Int32) : mt_bestGifts (ms_gifts M v) = mt_bestGifts M := mgAA M 12 11 v (by decide)
theorem mg_bestGifts_spelt (M : MT) (v : Nat → Int32) : mt_bestGifts (ms_spelt M v) = mt_bestGifts M := mgAA M 12 13 v (by decide)
theorem mg_bestGifts_speltMany (M : MT) (v : Int32) : mt_bestGifts (ms_speltMany M v) = mt_bestGifts M := mgAF M 12 20 v
theorem me_spelt (M : MT) : ms_spelt M (mt_spelt M) = M := meA M 13
theorem me2_spelt (M : MT) (v : Nat → Int32) (h : v = mt_spelt M) : ms_spelt M v = M := by rw [h]; exact me_spelt M
theorem mgs_spelt (M : MT) (v : Nat → Int32) : mt_spelt (ms_spelt M v) = v := mgAs M 13 v
theorem mm_spelt (M : MT) (a b : Nat → Int32) : ms_spelt (ms_spelt M a) b = ms_spelt M b := mmA M 13 a b
theorem mg_spelt_thrown (M : MT) (v : Int32) : mt_spelt (ms_thrown M v) = mt_spelt M := mgAF M 13 0 v
theorem mg_spelt_now (M : MT) (v : Nat → Int32) : mt_spelt (ms_now M v) = mt_spelt M := mgAA M 13 0 v (by decide)
theorem mg_spelt_aside (M : MT) (v : Nat → Int32) : mt_spelt (ms_aside M v) = mt_spelt M := mgAA M 13 1 v (by decide)
theorem mg_spelt_undos (M : MT) (v : Nat → Int32) : mt_spelt (ms_undos M v) = mt_spelt M := mgAA M 13 2 v (by decide)
theorem mg_spelt_undoMany (M : MT) (v : Int32) : mt_spelt (ms_undoMany M v) = mt_spelt M := mgAF M 13 1 v
theorem mg_spelt_tape (M : MT) (v : Nat → Int32) : mt_spelt (ms_tape M v) = mt_spelt M := mgAA M 13 3 v (by decide)
theorem mg_spelt_taped (M : MT) (v : Int32) : mt_spelt (ms_taped M v) = mt_spelt M := mgAF M 13 2 v
theorem mg_spelt_size (M : MT) (v : Int32) : mt_spelt (ms_size M v) = mt_spelt M := mgAF M 13 3 v
theorem mg_spelt_at (M : MT) (v : Int32) : mt_spelt (ms_at M v) = mt_spelt M := mgAF M 13 4 v
theorem mg_spelt_token (M : MT) (v : Int32) : mt_spelt (ms_token M v) = mt_spelt M := mgAF M 13 5 v
theorem mg_spelt_from (M : MT) (v : Int32) : mt_spelt (ms_from M v) = mt_spelt M := mgAF M 13 6 v
theorem mg_spelt_value (M : MT) (v : Int32) : mt_spelt (ms_value M v) = mt_spelt M := mgAF M 13 7 v
theorem mg_spelt_fault (M : MT) (v : Int32) : mt_spelt (ms_fault M v) = mt_spelt M := mgAF M 13 8 v
theorem mg_spelt_sold (M : MT) (v : Nat → Int32) : mt_spelt (ms_sold M v) = mt_spelt M := mgAA M 13 4 v (by decide)
theorem mg_spelt_sells (M : MT) (v : Nat → Int32) : mt_spelt (ms_sells M v) = mt_spelt M := mgAA M 13 5 v (by decide)
theorem mg_spelt_fallen (M : MT) (v : Int32) : mt_spelt (ms_fallen M v) = mt_spelt M := mgAF M 13 9 v
theorem mg_spelt_willFall (M : MT) (v : Int32) : mt_spelt (ms_willFall M v) = mt_spelt M := mgAF M 13 10 v
theorem mg_spelt_rounds (M : MT) (v : Int32) : mt_spelt (ms_rounds M v) = mt_spelt M := mgAF M 13 11 v
theorem mg_spelt_coins (M : MT) (v : Nat → Int32) : mt_spelt (ms_coins M v) = mt_spelt M := mgAA M 13 6 v (by decide)
theorem mg_spelt_extraOf (M : MT) (v : Int32) : mt_spelt (ms_extraOf M v) = mt_spelt M := mgAF M 13 12 v
theorem mg_spelt_extraCap (M : MT) (v : Int32) : mt_spelt (ms_extraCap M v) = mt_spelt M := mgAF M 13 13 v
theorem mg_spelt_extraShock (M : MT) (v : Int32) : mt_spelt (ms_extraShock M v) = mt_spelt M := mgAF M 13 14 v
theorem mg_spelt_buyerOf (M : MT) (v : Int32) : mt_spelt (ms_buyerOf M v) = mt_spelt M := mgAF M 13 15 v
theorem mg_spelt_buys (M : MT) (v : Int32) : mt_spelt (ms_buys M v) = mt_spelt M := mgAF M 13 16 v
theorem mg_spelt_part (M : MT) (v : Int32) : mt_spelt (ms_part M v) = mt_spelt M := mgAF M 13 17 v
theorem mg_spelt_forced (M : MT) (v : Int32) : mt_spelt (ms_forced M v) = mt_spelt M := mgAF M 13 18 v
theorem mg_spelt_left (M : MT) (v : Nat → Int32) : mt_spelt (ms_left M v) = mt_spelt M := mgAA M 13 7 v (by decide)
theorem mg_spelt_prices (M : MT) (v : Nat → Int32) : mt_spelt (ms_prices M v) = mt_spelt M := mgAA M 13 8 v (by decide)
theorem mg_spelt_musts (M : MT) (v : Nat → Int32) : mt_spelt (ms_musts M v) = mt_spelt M := mgAA M 13 9 v (by decide)
theorem mg_spelt_fell (M : MT) (v : Nat → Int32) : mt_spelt (ms_fell M v) = mt_spelt M := mgAA M 13 10 v (by decide)
theorem mg_spelt_leastLost (M : MT) (v : Int32) : mt_spelt (ms_leastLost M v) = mt_spelt M := mgAF M 13 19 v
theorem mg_spelt_gifts (M : MT) (v : Nat → Int32) : mt_spelt (ms_gifts M v) = mt_spelt M := mgAA M 13 11 v (by decide)
theorem mg_spelt_bestGifts (M : MT) (v : Nat → Int32) : mt_spelt (ms_bestGifts M v) = mt_spelt M := mgAA M 13 12 v (by decide)
theorem mg_spelt_speltMany (M : MT) (v : Int32) : mt_spelt (ms_speltMany M v) = mt_spelt M := mgAF M 13 20 v
theorem me_speltMany (M : MT) : ms_speltMany M (mt_speltMany M) = M := meF M 20
theorem me2_speltMany (M : MT) (v : Int32) (h : v = mt_speltMany M) : ms_speltMany M v = M := by rw [h]; exact me_speltMany M
theorem mgs_speltMany (M : MT) (v : Int32) : mt_speltMany (ms_speltMany M v) = v := mgFs M 20 v
theorem mm_speltMany (M : MT) (a b : Int32) : ms_speltMany (ms_speltMany M a) b = ms_speltMany M b := mmF M 20 a b
theorem mg_speltMany_thrown (M : MT) (v : Int32) : mt_speltMany (ms_thrown M v) = mt_speltMany M := mgFF M 20 0 v (by decide)
theorem mg_speltMany_now (M : MT) (v : Nat → Int32) : mt_speltMany (ms_now M v) = mt_speltMany M := mgFA M 20 0 v
theorem mg_speltMany_aside (M : MT) (v : Nat → Int32) : mt_speltMany (ms_aside M v) = mt_speltMany M := mgFA M 20 1 v
theorem mg_speltMany_undos (M : MT) (v : Nat → Int32) : mt_speltMany (ms_undos M v) = mt_speltMany M := mgFA M 20 2 v
theorem mg_speltMany_undoMany (M : MT) (v : Int32) : mt_speltMany (ms_undoMany M v) = mt_speltMany M := mgFF M 20 1 v (by decide)
theorem mg_speltMany_tape (M : MT) (v : Nat → Int32) : mt_speltMany (ms_tape M v) = mt_speltMany M := mgFA M 20 3 v
theorem mg_speltMany_taped (M : MT) (v : Int32) : mt_speltMany (ms_taped M v) = mt_speltMany M := mgFF M 20 2 v (by decide)
theorem mg_speltMany_size (M : MT) (v : Int32) : mt_speltMany (ms_size M v) = mt_speltMany M := mgFF M 20 3 v (by decide)
theorem mg_speltMany_at (M : MT) (v : Int32) : mt_speltMany (ms_at M v) = mt_speltMany M := mgFF M 20 4 v (by decide)
theorem mg_speltMany_token (M : MT) (v : Int32) : mt_speltMany (ms_token M v) = mt_speltMany M := mgFF M 20 5 v (by decide)
theorem mg_speltMany_from (M : MT) (v : Int32) : mt_speltMany (ms_from M v) = mt_speltMany M := mgFF M 20 6 v (by decide)
theorem mg_speltMany_value (M : MT) (v : Int32) : mt_speltMany (ms_value M v) = mt_speltMany M := mgFF M 20 7 v (by decide)
theorem mg_speltMany_fault (M : MT) (v : Int32) : mt_speltMany (ms_fault M v) = mt_speltMany M := mgFF M 20 8 v (by decide)
theorem mg_speltMany_sold (M : MT) (v : Nat → Int32) : mt_speltMany (ms_sold M v) = mt_speltMany M := mgFA M 20 4 v
theorem mg_speltMany_sells (M : MT) (v : Nat → Int32) : mt_speltMany (ms_sells M v) = mt_speltMany M := mgFA M 20 5 v
theorem mg_speltMany_fallen (M : MT) (v : Int32) : mt_speltMany (ms_fallen M v) = mt_speltMany M := mgFF M 20 9 v (by decide)
theorem mg_speltMany_willFall (M : MT) (v : Int32) : mt_speltMany (ms_willFall M v) = mt_speltMany M := mgFF M 20 10 v (by decide)
theorem mg_speltMany_rounds (M : MT) (v : Int32) : mt_speltMany (ms_rounds M v) = mt_speltMany M := mgFF M 20 11 v (by decide)
theorem mg_speltMany_coins (M : MT) (v : Nat → Int32) : mt_speltMany (ms_coins M v) = mt_speltMany M := mgFA M 20 6 v
theorem mg_speltMany_extraOf (M : MT) (v : Int32) : mt_speltMany (ms_extraOf M v) = mt_speltMany M := mgFF M 20 12 v (by decide)
theorem mg_speltMany_extraCap (M : MT) (v : Int32) : mt_speltMany (ms_extraCap M v) = mt_speltMany M := mgFF M 20 13 v (by decide)
theorem mg_speltMany_extraShock (M : MT) (v : Int32) : mt_speltMany (ms_extraShock M v) = mt_speltMany M := mgFF M 20 14 v (by decide)
theorem mg_speltMany_buyerOf (M : MT) (v : Int32) : mt_speltMany (ms_buyerOf M v) = mt_speltMany M := mgFF M 20 15 v (by decide)
theorem mg_speltMany_buys (M : MT) (v : Int32) : mt_speltMany (ms_buys M v) = mt_speltMany M := mgFF M 20 16 v (by decide)
theorem mg_speltMany_part (M : MT) (v : Int32) : mt_speltMany (ms_part M v) = mt_speltMany M := mgFF M 20 17 v (by decide)
theorem mg_speltMany_forced (M : MT) (v : Int32) : mt_speltMany (ms_forced M v) = mt_speltMany M := mgFF M 20 18 v (by decide)
theorem mg_speltMany_left (M : MT) (v : Nat → Int32) : mt_speltMany (ms_left M v) = mt_speltMany M := mgFA M 20 7 v
theorem mg_speltMany_prices (M : MT) (v : Nat → Int32) : mt_speltMany (ms_prices M v) = mt_speltMany M := mgFA M 20 8 v
theorem mg_speltMany_musts (M : MT) (v : Nat → Int32) : mt_speltMany (ms_musts M v) = mt_speltMany M := mgFA M 20 9 v
theorem mg_speltMany_fell (M : MT) (v : Nat → Int32) : mt_speltMany (ms_fell M v) = mt_speltMany M := mgFA M 20 10 v
theorem mg_speltMany_leastLost (M : MT) (v : Int32) : mt_speltMany (ms_leastLost M v) = mt_speltMany M := mgFF M 20 19 v (by decide)
theorem mg_speltMany_gifts (M : MT) (v : Nat → Int32) : mt_speltMany (ms_gifts M v) = mt_speltMany M := mgFA M 20 11 v
theorem mg_speltMany_bestGifts (M : MT) (v : Nat → Int32) : mt_speltMany (ms_bestGifts M v) = mt_speltMany M := mgFA M 20 12 v
theorem mg_speltMany_spelt (M : MT) (v : Nat → Int32) : mt_speltMany (ms_spelt M v) = mt_speltMany M := mgFA M 20 13 v
theorem mc_thrown_now (M : MT) (a : Nat → Int32) (b : Int32) : ms_thrown (ms_now M a) b = ms_now (ms_thrown M b) a := mcFA M 0 0 a b
theorem mc_thrown_aside (M : MT) (a : Nat → Int32) (b : Int32) : ms_thrown (ms_aside M a) b = ms_aside (ms_thrown M b) a := mcFA M 0 1 a b
theorem mc_thrown_undos (M : MT) (a : Nat → Int32) (b : Int32) : ms_thrown (ms_undos M a) b = ms_undos (ms_thrown M b) a := mcFA M 0 2 a b
theorem mc_thrown_undoMany (M : MT) (a : Int32) (b : Int32) : ms_thrown (ms_undoMany M a) b = ms_undoMany (ms_thrown M b) a := mcFF M 0 1 a b (by decide)
theorem mc_thrown_tape (M : MT) (a : Nat → Int32) (b : Int32) : ms_thrown (ms_tape M a) b = ms_tape (ms_thrown M b) a := mcFA M 0 3 a b
theorem mc_thrown_taped (M : MT) (a : Int32) (b : Int32) : ms_thrown (ms_taped M a) b = ms_taped (ms_thrown M b) a := mcFF M 0 2 a b (by decide)
theorem mc_thrown_size (M : MT) (a : Int32) (b : Int32) : ms_thrown (ms_size M a) b = ms_size (ms_thrown M b) a := mcFF M 0 3 a b (by decide)
theorem mc_thrown_at (M : MT) (a : Int32) (b : Int32) : ms_thrown (ms_at M a) b = ms_at (ms_thrown M b) a := mcFF M 0 4 a b (by decide)
theorem mc_thrown_token (M : MT) (a : Int32) (b : Int32) : ms_thrown (ms_token M a) b = ms_token (ms_thrown M b) a := mcFF M 0 5 a b (by decide)
theorem mc_thrown_from (M : MT) (a : Int32) (b : Int32) : ms_thrown (ms_from M a) b = ms_from (ms_thrown M b) a := mcFF M 0 6 a b (by decide)
theorem mc_thrown_value (M : MT) (a : Int32) (b : Int32) : ms_thrown (ms_value M a) b = ms_value (ms_thrown M b) a := mcFF M 0 7 a b (by decide)
theorem mc_thrown_fault (M : MT) (a : Int32) (b : Int32) : ms_thrown (ms_fault M a) b = ms_fault (ms_thrown M b) a := mcFF M 0 8 a b (by decide)
theorem mc_thrown_sold (M : MT) (a : Nat → Int32) (b : Int32) : ms_thrown (ms_sold M a) b = ms_sold (ms_thrown M b) a := mcFA M 0 4 a b
theorem mc_thrown_sells (M : MT) (a : Nat → Int32) (b : Int32) : ms_thrown (ms_sells M a) b = ms_sells (ms_thrown M b) a := mcFA M 0 5 a b
theorem mc_thrown_fallen (M : MT) (a : Int32) (b : Int32) : ms_thrown (ms_fallen M a) b = ms_fallen (ms_thrown M b) a := mcFF M 0 9 a b (by decide)
theorem mc_thrown_willFall (M : MT) (a : Int32) (b : Int32) : ms_thrown (ms_willFall M a) b = ms_willFall (ms_thrown M b) a := mcFF M 0 10 a b (by decide)
theorem mc_thrown_rounds (M : MT) (a : Int32) (b : Int32) : ms_thrown (ms_rounds M a) b = ms_rounds (ms_thrown M b) a := mcFF M 0 11 a b (by decide)
theorem mc_thrown_coins (M : MT) (a : Nat → Int32) (b : Int32) : ms_thrown (ms_coins M a) b = ms_coins (ms_thrown M b) a := mcFA M 0 6 a b
theorem mc_thrown_extraOf (M : MT) (a : Int32) (b : Int32) : ms_thrown (ms_extraOf M a) b = ms_extraOf (ms_thrown M b) a := mcFF M 0 12 a b (by decide)
theorem mc_thrown_extraCap (M : MT) (a : Int32) (b : Int32) : ms_thrown (ms_extraCap M a) b = ms_extraCap (ms_thrown M b) a := mcFF M 0 13 a b (by decide)
theorem mc_thrown_extraShock (M : MT) (a : Int32) (b : Int32) : ms_thrown (ms_extraShock M a) b = ms_extraShock (ms_thrown M b) a := mcFF M 0 14 a b (by decide)
theorem mc_thrown_buyerOf (M : MT) (a : Int32) (b : Int32) : ms_thrown (ms_buyerOf M a) b = ms_buyerOf (ms_thrown M b) a := mcFF M 0 15 a b (by decide)
theorem mc_thrown_buys (M : MT) (a : Int32) (b : Int32) : ms_thrown (ms_buys M a) b = ms_buys (ms_thrown M b) a := mcFF M 0 16 a b (by decide)
theorem mc_thrown_part (M : MT) (a : Int32) (b : Int32) : ms_thrown (ms_part M a) b = ms_part (ms_thrown M b) a := mcFF M 0 17 a b (by decide)
theorem mc_thrown_forced (M : MT) (a : Int32) (b : Int32) : ms_thrown (ms_forced M a) b = ms_forced (ms_thrown M b) a := mcFF M 0 18 a b (by decide)
theorem mc_thrown_left (M : MT) (a : Nat → Int32) (b : Int32) : ms_thrown (ms_left M a) b = ms_left (ms_thrown M b) a := mcFA M 0 7 a b
theorem mc_thrown_prices (M : MT) (a : Nat → Int32) (b : Int32) : ms_thrown (ms_prices M a) b = ms_prices (ms_thrown M b) a := mcFA M 0 8 a b
theorem mc_thrown_musts (M : MT) (a : Nat → Int32) (b : Int32) : ms_thrown (ms_musts M a) b = ms_musts (ms_thrown M b) a := mcFA M 0 9 a b
theorem mc_thrown_fell (M : MT) (a : Nat → Int32) (b : Int32) : ms_thrown (ms_fell M a) b = ms_fell (ms_thrown M b) a := mcFA M 0 10 a b
theorem mc_thrown_leastLost (M : MT) (a : Int32) (b : Int32) : ms_thrown (ms_leastLost M a) b = ms_leastLost (ms_thrown M b) a := mcFF M 0 19 a b (by decide)
theorem mc_thrown_gifts (M : MT) (a : Nat → Int32) (b : Int32) : ms_thrown (ms_gifts M a) b = ms_gifts (ms_thrown M b) a := mcFA M 0 11 a b
theorem mc_thrown_bestGifts (M : MT) (a : Nat → Int32) (b : Int32) : ms_thrown (ms_bestGifts M a) b = ms_bestGifts (ms_thrown M b) a := mcFA M 0 12 a b
theorem mc_thrown_spelt (M : MT) (a : Nat → Int32) (b : Int32) : ms_thrown (ms_spelt M a) b = ms_spelt (ms_thrown M b) a := mcFA M 0 13 a b
theorem mc_thrown_speltMany (M : MT) (a : Int32) (b : Int32) : ms_thrown (ms_speltMany M a) b = ms_speltMany (ms_thrown M b) a := mcFF M 0 20 a b (by decide)
theorem mc_now_aside (M : MT) (a : Nat → Int32) (b : Nat → Int32) : ms_now (ms_aside M a) b = ms_aside (ms_now M b) a := mcAA M 0 1 a b (by decide)
theorem mc_now_undos (M : MT) (a : Nat → Int32) (b : Nat → Int32) : ms_now (ms_undos M a) b = ms_undos (ms_now M b) a := mcAA M 0 2 a b (by decide)
theorem mc_now_undoMany (M : MT) (a : Int32) (b : Nat → Int32) : ms_now (ms_undoMany M a) b = ms_undoMany (ms_now M b) a := mcAF M 0 1 a b
theorem mc_now_tape (M : MT) (a : Nat → Int32) (b : Nat → Int32) : ms_now (ms_tape M a) b = ms_tape (ms_now M b) a := mcAA M 0 3 a b (by decide)
theorem mc_now_taped (M : MT) (a : Int32) (b : Nat → Int32) : ms_now (ms_taped M a) b = ms_taped (ms_now M b) a := mcAF M 0 2 a b
theorem mc_now_size (M : MT) (a : Int32) (b : Nat → Int32) : ms_now (ms_size M a) b = ms_size (ms_now M b) a := mcAF M 0 3 a b
theorem mc_now_at (M : MT) (a : Int32) (b : Nat → Int32) : ms_now (ms_at M a) b = ms_at (ms_now M b) a := mcAF M 0 4 a b
theorem mc_now_token (M : MT) (a : Int32) (b : Nat → Int32) : ms_now (ms_token M a) b = ms_token (ms_now M b) a := mcAF M 0 5 a b
theorem mc_now_from (M : MT) (a : Int32) (b : Nat → Int32) : ms_now (ms_from M a) b = ms_from (ms_now M b) a := mcAF M 0 6 a b
theorem mc_now_value (M : MT) (a : Int32) (b : Nat → Int32) : ms_now (ms_value M a) b = ms_value (ms_now M b) a := mcAF M 0 7 a b
theorem mc_now_fault (M : MT) (a : Int32) (b : Nat → Int32) : ms_now (ms_fault M a) b = ms_fault (ms_now M b) a := mcAF M 0 8 a b
theorem mc_now_sold (M : MT) (a : Nat → Int32) (b : Nat → Int32) : ms_now (ms_sold M a) b = ms_sold (ms_now M b) a := mcAA M 0 4 a b (by decide)
theorem mc_now_sells (M : MT) (a : Nat → Int32) (b : Nat → Int32) : ms_now (ms_sells M a) b = ms_sells (ms_now M b) a := mcAA M 0 5 a b (by decide)
theorem mc_now_fallen (M : MT) (a : Int32) (b : Nat → Int32) : ms_now (ms_fallen M a) b = ms_fallen (ms_now M b) a := mcAF M 0 9 a b
theorem mc_now_willFall (M : MT) (a : Int32) (b : Nat → Int32) : ms_now (ms_willFall M a) b = ms_willFall (ms_now M b) a := mcAF M 0 10 a b
theorem mc_now_rounds (M : MT) (a : Int32) (b : Nat → Int32) : ms_now (ms_rounds M a) b = ms_rounds (ms_now M b) a := mcAF M 0 11 a b
theorem mc_now_coins (M : MT) (a : Nat → Int32) (b : Nat → Int32) : ms_now (ms_coins M a) b = ms_coins (ms_now M b) a := mcAA M 0 6 a b (by decide)
theorem mc_now_extraOf (M : MT) (a : Int32) (b : Nat → Int32) : ms_now (ms_extraOf M a) b = ms_extraOf (ms_now M b) a := mcAF M 0 12 a b
theorem mc_now_extraCap (M : MT) (a : Int32) (b : Nat → Int32) : ms_now (ms_extraCap M a) b = ms_extraCap (ms_now M b) a := mcAF M 0 13 a b
theorem mc_now_extraShock (M : MT) (a : Int32) (b : Nat → Int32) : ms_now (ms_extraShock M a) b = ms_extraShock (ms_now M b) a := mcAF M 0 14 a b
theorem mc_now_buyerOf (M : MT) (a : Int32) (b : Nat → Int32) : ms_now (ms_buyerOf M a) b = ms_buyerOf (ms_now M b) a := mcAF M 0 15 a b
theorem mc_now_buys (M : MT) (a : Int32) (b : Nat → Int32) : ms_now (ms_buys M a) b = ms_buys (ms_now M b) a := mcAF M 0 16 a b
theorem mc_now_part (M : MT) (a : Int32) (b : Nat → Int32) : ms_now (ms_part M a) b = ms_part (ms_now M b) a := mcAF M 0 17 a b
theorem mc_now_forced (M : MT) (a : Int32) (b : Nat → Int32) : ms_now (ms_forced M a) b = ms_forced (ms_now M b) a := mcAF M 0 18 a b
theorem mc_now_left (M : MT) (a : Nat → Int32) (b : Nat → Int32) : ms_now (ms_left M a) b = ms_left (ms_now M b) a := mcAA M 0 7 a b (by decide)
theorem mc_now_prices (M : MT) (a : Nat → Int32) (b : Nat → Int32) : ms_now (ms_prices M a) b = ms_prices (ms_now M b) a := mcAA M 0 8 a b (by decide)
theorem mc_now_musts (M : MT) (a : Nat → Int32) (b : Nat → Int32) : ms_now (ms_musts M a) b = ms_musts (ms_now M b) a := mcAA M 0 9 a b (by decide)
theorem mc_now_fell (M : MT) (a : Nat → Int32) (b : Nat → Int32) : ms_now (ms_fell M a) b = ms_fell (ms_now M b) a := mcAA M 0 10 a b (by decide)
theorem mc_now_leastLost (M : MT) (a : Int32) (b : Nat → Int32) : ms_now (ms_leastLost M a) b = ms_leastLost (ms_now M b) a := mcAF M 0 19 a b
theorem mc_now_gifts (M : MT) (a : Nat → Int32) (b : Nat → Int32) : ms_now (ms_gifts M a) b = ms_gifts (ms_now M b) a := mcAA M 0 11 a b (by decide)
theorem mc_now_bestGifts (M : MT) (a : Nat → Int32) (b : Nat → Int32) : ms_now (ms_bestGifts M a) b = ms_bestGifts (ms_now M b) a := mcAA M 0 12 a b (by decide)
theorem mc_now_spelt (M : MT) (a : Nat → Int32) (b : Nat → Int32) : ms_now (ms_spelt M a) b = ms_spelt (ms_now M b) a := mcAA M 0 13 a b (by decide)
theorem mc_now_speltMany (M : MT) (a : Int32) (b : Nat → Int32) : ms_now (ms_speltMany M a) b = ms_speltMany (ms_now M b) a := mcAF M 0 20 a b
theorem mc_aside_undos (M : MT) (a : Nat → Int32) (b : Nat → Int32) : ms_aside (ms_undos M a) b = ms_undos (ms_aside M b) a := mcAA M 1 2 a b (by decide)
theorem mc_aside_undoMany (M : MT) (a : Int32) (b : Nat → Int32) : ms_aside (ms_undoMany M a) b = ms_undoMany (ms_aside M b) a := mcAF M 1 1 a b
theorem mc_aside_tape (M : MT) (a : Nat → Int32) (b : Nat → Int32) : ms_aside (ms_tape M a) b = ms_tape (ms_aside M b) a := mcAA M 1 3 a b (by decide)
theorem mc_aside_taped (M : MT) (a : Int32) (b : Nat → Int32) : ms_aside (ms_taped M a) b = ms_taped (ms_aside M b) a := mcAF M 1 2 a b
theorem mc_aside_size (M : MT) (a : Int32) (b : Nat → Int32) : ms_aside (ms_size M a) b = ms_size (ms_aside M b) a := mcAF M 1 3 a b
theorem mc_aside_at (M : MT) (a : Int32) (b : Nat → Int32) : ms_aside (ms_at M a) b = ms_at (ms_aside M b) a := mcAF M 1 4 a b
theorem mc_aside_token (M : MT) (a : Int32) (b : Nat → Int32) : ms_aside (ms_token M a) b = ms_token (ms_aside M b) a := mcAF M 1 5 a b
theorem mc_aside_from (M : MT) (a : Int32) (b : Nat → Int32) : ms_aside (ms_from M a) b = ms_from (ms_aside M b) a := mcAF M 1 6 a b
theorem mc_aside_value (M : MT) (a : Int32) (b : Nat → Int32) : ms_aside (ms_value M a) b = ms_value (ms_aside M b) a := mcAF M 1 7 a b
theorem mc_aside_fault (M : MT) (a : Int32) (b : Nat → Int32) : ms_aside (ms_fault M a) b = ms_fault (ms_aside M b) a := mcAF M 1 8 a b
theorem mc_aside_sold (M : MT) (a : Nat → Int32) (b : Nat → Int32) : ms_aside (ms_sold M a) b = ms_sold (ms_aside M b) a := mcAA M 1 4 a b (by decide)
theorem mc_aside_sells (M : MT) (a : Nat → Int32) (b : Nat → Int32) : ms_aside (ms_sells M a) b = ms_sells (ms_aside M b) a := mcAA M 1 5 a b (by decide)
theorem mc_aside_fallen (M : MT) (a : Int32) (b : Nat → Int32) : ms_aside (ms_fallen M a) b = ms_fallen (ms_aside M b) a := mcAF M 1 9 a b
theorem mc_aside_willFall (M : MT) (a : Int32) (b : Nat → Int32) : ms_aside (ms_willFall M a) b = ms_willFall (ms_aside M b) a := mcAF M 1 10 a b
theorem mc_aside_rounds (M : MT) (a : Int32) (b : Nat → Int32) : ms_aside (ms_rounds M a) b = ms_rounds (ms_aside M b) a := mcAF M 1 11 a b
theorem mc_aside_coins (M : MT) (a : Nat → Int32) (b : Nat → Int32) : ms_aside (ms_coins M a) b = ms_coins (ms_aside M b) a := mcAA M 1 6 a b (by decide)
theorem mc_aside_extraOf (M : MT) (a : Int32) (b : Nat → Int32) : ms_aside (ms_extraOf M a) b = ms_extraOf (ms_aside M b) a := mcAF M 1 12 a b
theorem mc_aside_extraCap (M : MT) (a : Int32) (b : Nat → Int32) : ms_aside (ms_extraCap M a) b = ms_extraCap (ms_aside M b) a := mcAF M 1 13 a b
theorem mc_aside_extraShock (M : MT) (a : Int32) (b : Nat → Int32) : ms_aside (ms_extraShock M a) b = ms_extraShock (ms_aside M b) a := mcAF M 1 14 a b
theorem mc_aside_buyerOf (M : MT) (a : Int32) (b : Nat → Int32) : ms_aside (ms_buyerOf M a) b = ms_buyerOf (ms_aside M b) a := mcAF M 1 15 a b
theorem mc_aside_buys (M : MT) (a : Int32) (b : Nat → Int32) : ms_aside (ms_buys M a) b = ms_buys (ms_aside M b) a := mcAF M 1 16 a b
theorem mc_aside_part (M : MT) (a : Int32) (b : Nat → Int32) : ms_aside (ms_part M a) b = ms_part (ms_aside M b) a := mcAF M 1 17 a b
theorem mc_aside_forced (M : MT) (a : Int32) (b : Nat → Int32) : ms_aside (ms_forced M a) b = ms_forced (ms_aside M b) a := mcAF M 1 18 a b
theorem mc_aside_left (M : MT) (a : Nat → Int32) (b : Nat → Int32) : ms_aside (ms_left M a) b = ms_left (ms_aside M b) a := mcAA M 1 7 a b (by decide)
theorem mc_aside_prices (M : MT) (a : Nat → Int32) (b : Nat → Int32) : ms_aside (ms_prices M a) b = ms_prices (ms_aside M b) a := mcAA M 1 8 a b (by decide)
theorem mc_aside_musts (M : MT) (a : Nat → Int32) (b : Nat → Int32) : ms_aside (ms_musts M a) b = ms_musts (ms_aside M b) a := mcAA M 1 9 a b (by decide)
theorem mc_aside_fell (M : MT) (a : Nat → Int32) (b : Nat → Int32) : ms_aside (ms_fell M a) b = ms_fell (ms_aside M b) a := mcAA M 1 10 a b (by decide)
theorem mc_aside_leastLost (M : MT) (a : Int32) (b : Nat → Int32) : ms_aside (ms_leastLost M a) b = ms_leastLost (ms_aside M b) a := mcAF M 1 19 a b
theorem mc_aside_gifts (M : MT) (a : Nat → Int32) (b : Nat → Int32) : ms_aside (ms_gifts M a) b = ms_gifts (ms_aside M b) a := mcAA M 1 11 a b (by decide)
theorem mc_aside_bestGifts (M : MT) (a : Nat → Int32) (b : Nat → Int32) : ms_aside (ms_bestGifts M a) b = ms_bestGifts (ms_aside M b) a := mcAA M 1 12 a b (by decide)
theorem mc_aside_spelt (M : MT) (a : Nat → Int32) (b : Nat → Int32) : ms_aside (ms_spelt M a) b = ms_spelt (ms_aside M b) a := mcAA M 1 13 a b (by decide)
theorem mc_aside_speltMany (M : MT) (a : Int32) (b : Nat → Int32) : ms_aside (ms_speltMany M a) b = ms_speltMany (ms_aside M b) a := mcAF M 1 20 a b
theorem mc_undos_undoMany (M : MT) (a : Int32) (b : Nat → Int32) : ms_undos (ms_undoMany M a) b = ms_undoMany (ms_undos M b) a := mcAF M 2 1 a b
theorem mc_undos_tape (M : MT) (a : Nat → Int32) (b : Nat → Int32) : ms_undos (ms_tape M a) b = ms_tape (ms_undos M b) a := mcAA M 2 3 a b (by decide)
theorem mc_undos_taped (M : MT) (a : Int32) (b : Nat → Int32) : ms_undos (ms_taped M a) b = ms_taped (ms_undos M b) a := mcAF M 2 2 a b
theorem mc_undos_size (M : MT) (a : Int32) (b : Nat → Int32) : ms_undos (ms_size M a) b = ms_size (ms_undos M b) a := mcAF M 2 3 a b
theorem mc_undos_at (M : MT) (a : Int32) (b : Nat → Int32) : ms_undos (ms_at M a) b = ms_at (ms_undos M b) a := mcAF M 2 4 a b
theorem mc_undos_token (M : MT) (a : Int32) (b : Nat → Int32) : ms_undos (ms_token M a) b = ms_token (ms_undos M b) a := mcAF M 2 5 a b
theorem mc_undos_from (M : MT) (a : Int32) (b : Nat → Int32) : ms_undos (ms_from M a) b = ms_from (ms_undos M b) a := mcAF M 2 6 a b
theorem mc_undos_value (M : MT) (a : Int32) (b : Nat → Int32) : ms_undos (ms_value M a) b = ms_value (ms_undos M b) a := mcAF M 2 7 a b
theorem mc_undos_fault (M : MT) (a : Int32) (b : Nat → Int32) : ms_undos (ms_fault M a) b = ms_fault (ms_undos M b) a := mcAF M 2 8 a b
theorem mc_undos_sold (M : MT) (a : Nat → Int32) (b : Nat → Int32) : ms_undos (ms_sold M a) b = ms_sold (ms_undos M b) a := mcAA M 2 4 a b (by decide)
theorem mc_undos_sells (M : MT) (a : Nat → Int32) (b : Nat → Int32) : ms_undos (ms_sells M a) b = ms_sells (ms_undos M b) a := mcAA M 2 5 a b (by decide)
theorem mc_undos_fallen (M : MT) (a : Int32) (b : Nat → Int32) : ms_undos (ms_fallen M a) b = ms_fallen (ms_undos M b) a := mcAF M 2 9 a b
theorem mc_undos_willFall (M : MT) (a : Int32) (b : Nat → Int32) : ms_undos (ms_willFall M a) b = ms_willFall (ms_undos M b) a := mcAF M 2 10 a b
theorem mc_undos_rounds (M : MT) (a : Int32) (b : Nat → Int32) : ms_undos (ms_rounds M a) b = ms_rounds (ms_undos M b) a := mcAF M 2 11 a b
theorem mc_undos_coins (M : MT) (a : Nat → Int32) (b : Nat → Int32) : ms_undos (ms_coins M a) b = ms_coins (ms_undos M b) a := mcAA M 2 6 a b (by decide)
theorem mc_undos_extraOf (M : MT) (a : Int32) (b : Nat → Int32) : ms_undos (ms_extraOf M a) b = ms_extraOf (ms_undos M b) a := mcAF M 2 12 a b
theorem mc_undos_extraCap (M : MT) (a : Int32) (b : Nat → Int32) : ms_undos (ms_extraCap M a) b = ms_extraCap (ms_undos M b) a := mcAF M 2 13 a b
theorem mc_undos_extraShock (M : MT) (a : Int32) (b : Nat → Int32) : ms_undos (ms_extraShock M a) b = ms_extraShock (ms_undos M b) a := mcAF M 2 14 a b
theorem mc_undos_buyerOf (M : MT) (a : Int32) (b : Nat → Int32) : ms_undos (ms_buyerOf M a) b = ms_buyerOf (ms_undos M b) a := mcAF M 2 15 a b
theorem mc_undos_buys (M : MT) (a : Int32) (b : Nat → Int32) : ms_undos (ms_buys M a) b = ms_buys (ms_undos M b) a := mcAF M 2 16 a b
theorem mc_undos_part (M : MT) (a : Int32) (b : Nat → Int32) : ms_undos (ms_part M a) b = ms_part (ms_undos M b) a := mcAF M 2 17 a b
theorem mc_undos_forced (M : MT) (a : Int32) (b : Nat → Int32) : ms_undos (ms_forced M a) b = ms_forced (ms_undos M b) a := mcAF M 2 18 a b
theorem mc_undos_left (M : MT) (a : Nat → Int32) (b : Nat → Int32) : ms_undos (ms_left M a) b = ms_left (ms_undos M b) a := mcAA M 2 7 a b (by decide)
theorem mc_undos_prices (M : MT) (a : Nat → Int32) (b : Nat → Int32) : ms_undos (ms_prices M a) b = ms_prices (ms_undos M b) a := mcAA M 2 8 a b (by decide)
theorem mc_undos_musts (M : MT) (a : Nat → Int32) (b : Nat → Int32) : ms_undos (ms_musts M a) b = ms_musts (ms_undos M b) a := mcAA M 2 9 a b (by decide)
theorem mc_undos_fell (M : MT) (a : Nat → Int32) (b : Nat → Int32) : ms_undos (ms_fell M a) b = ms_fell (ms_undos M b) a := mcAA M 2 10 a b (by decide)
theorem mc_undos_leastLost (M : MT) (a : Int32) (b : Nat → Int32) : ms_undos (ms_leastLost M a) b = ms_leastLost (ms_undos M b) a := mcAF M 2 19 a b
theorem mc_undos_gifts (M : MT) (a : Nat → Int32) (b : Nat → Int32) : ms_undos (ms_gifts M a) b = ms_gifts (ms_undos M b) a := mcAA M 2 11 a b (by decide)
theorem mc_undos_bestGifts (M : MT) (a : Nat → Int32) (b : Nat → Int32) : ms_undos (ms_bestGifts M a) b = ms_bestGifts (ms_undos M b) a := mcAA M 2 12 a b (by decide)
theorem mc_undos_spelt (M : MT) (a : Nat → Int32) (b : Nat → Int32) : ms_undos (ms_spelt M a) b = ms_spelt (ms_undos M b) a := mcAA M 2 13 a b (by decide)
theorem mc_undos_speltMany (M : MT) (a : Int32) (b : Nat → Int32) : ms_undos (ms_speltMany M a) b = ms_speltMany (ms_undos M b) a := mcAF M 2 20 a b
theorem mc_undoMany_tape (M : MT) (a : Nat → Int32) (b : Int32) : ms_undoMany (ms_tape M a) b = ms_tape (ms_undoMany M b) a := mcFA M 1 3 a b
theorem mc_undoMany_taped (M : MT) (a : Int32) (b : Int32) : ms_undoMany (ms_taped M a) b = ms_taped (ms_undoMany M b) a := mcFF M 1 2 a b (by decide)
theorem mc_undoMany_size (M : MT) (a : Int32) (b : Int32) : ms_undoMany (ms_size M a) b = ms_size (ms_undoMany M b) a := mcFF M 1 3 a b (by decide)
theorem mc_undoMany_at (M : MT) (a : Int32) (b : Int32) : ms_undoMany (ms_at M a) b = ms_at (ms_undoMany M b) a := mcFF M 1 4 a b (by decide)
theorem mc_undoMany_token (M : MT) (a : Int32) (b : Int32) : ms_undoMany (ms_token M a) b = ms_token (ms_undoMany M b) a := mcFF M 1 5 a b (by decide)
theorem mc_undoMany_from (M : MT) (a : Int32) (b : Int32) : ms_undoMany (ms_from M a) b = ms_from (ms_undoMany M b) a := mcFF M 1 6 a b (by decide)
theorem mc_undoMany_value (M : MT) (a : Int32) (b : Int32) : ms_undoMany (ms_value M a) b = ms_value (ms_undoMany M b) a := mcFF M 1 7 a b (by decide)
theorem mc_undoMany_fault (M : MT) (a : Int32) (b : Int32) : ms_undoMany (ms_fault M a) b = ms_fault (ms_undoMany M b) a := mcFF M 1 8 a b (by decide)
theorem mc_undoMany_sold (M : MT) (a : Nat → Int32) (b : Int32) : ms_undoMany (ms_sold M a) b = ms_sold (ms_undoMany M b) a := mcFA M 1 4 a b
theorem mc_undoMany_sells (M : MT) (a : Nat → Int32) (b : Int32) : ms_undoMany (ms_sells M a) b = ms_sells (ms_undoMany M b) a := mcFA M 1 5 a b
theorem mc_undoMany_fallen (M : MT) (a : Int32) (b : Int32) : ms_undoMany (ms_fallen M a) b = ms_fallen (ms_undoMany M b) a := mcFF M 1 9 a b (by decide)
theorem mc_undoMany_willFall (M : MT) (a : Int32) (b : Int32) : ms_undoMany (ms_willFall M a) b = ms_willFall (ms_undoMany M b) a := mcFF M 1 10 a b (by decide)
theorem mc_undoMany_rounds (M : MT) (a : Int32) (b : Int32) : ms_undoMany (ms_rounds M a) b = ms_rounds (ms_undoMany M b) a := mcFF M 1 11 a b (by decide)
theorem mc_undoMany_coins (M : MT) (a : Nat → Int32) (b : Int32) : ms_undoMany (ms_coins M a) b = ms_coins (ms_undoMany M b) a := mcFA M 1 6 a b
theorem mc_undoMany_extraOf (M : MT) (a : Int32) (b : Int32) : ms_undoMany (ms_extraOf M a) b = ms_extraOf (ms_undoMany M b) a := mcFF M 1 12 a b (by decide)
theorem mc_undoMany_extraCap (M : MT) (a : Int32) (b : Int32) : ms_undoMany (ms_extraCap M a) b = ms_extraCap (ms_undoMany M b) a := mcFF M 1 13 a b (by decide)
theorem mc_undoMany_extraShock (M : MT) (a : Int32) (b : Int32) : ms_undoMany (ms_extraShock M a) b = ms_extraShock (ms_undoMany M b) a := mcFF M 1 14 a b (by decide)
theorem mc_undoMany_buyerOf (M : MT) (a : Int32) (b : Int32) : ms_undoMany (ms_buyerOf M a) b = ms_buyerOf (ms_undoMany M b) a := mcFF M 1 15 a b (by decide)
theorem mc_undoMany_buys (M : MT) (a : Int32) (b : Int32) : ms_undoMany (ms_buys M a) b = ms_buys (ms_undoMany M b) a := mcFF M 1 16 a b (by decide)
theorem mc_undoMany_part (M : MT) (a : Int32) (b : Int32) : ms_undoMany (ms_part M a) b = ms_part (ms_undoMany M b) a := mcFF M 1 17 a b (by decide)
theorem mc_undoMany_forced (M : MT) (a : Int32) (b : Int32) : ms_undoMany (ms_forced M a) b = ms_forced (ms_undoMany M b) a := mcFF M 1 18 a b (by decide)
theorem mc_undoMany_left (M : MT) (a : Nat → Int32) (b : Int32) : ms_undoMany (ms_left M a) b = ms_left (ms_undoMany M b) a := mcFA M 1 7 a b
theorem mc_undoMany_prices (M : MT) (a : Nat → Int32) (b : Int32) : ms_undoMany (ms_prices M a) b = ms_prices (ms_undoMany M b) a := mcFA M 1 8 a b
theorem mc_undoMany_musts (M : MT) (a : Nat → Int32) (b : Int32) : ms_undoMany (ms_musts M a) b = ms_musts (ms_undoMany M b) a := mcFA M 1 9 a b
theorem mc_undoMany_fell (M : MT) (a : Nat → Int32) (b : Int32) : ms_undoMany (ms_fell M a) b = ms_fell (ms_undoMany M b) a := mcFA M 1 10 a b
theorem mc_undoMany_leastLost (M : MT) (a : Int32) (b : Int32) : ms_undoMany (ms_leastLost M a) b = ms_leastLost (ms_undoMany M b) a := mcFF M 1 19 a b (by decide)
theorem mc_undoMany_gifts (M : MT) (a : Nat → Int32) (b : Int32) : ms_undoMany (ms_gifts M a) b = ms_gifts (ms_undoMany M b) a := mcFA M 1 11 a b
theorem mc_undoMany_bestGifts (M : MT) (a : Nat → Int32) (b : Int32) : ms_undoMany (ms_bestGifts M a) b = ms_bestGifts (ms_undoMany M b) a := mcFA M 1 12 a b
theorem mc_undoMany_spelt (M : MT) (a : Nat → Int32) (b : Int32) : ms_undoMany (ms_spelt M a) b = ms_spelt (ms_undoMany M b) a := mcFA M 1 13 a b
theorem mc_undoMany_speltMany (M : MT) (a : Int32) (b : Int32) : ms_undoMany (ms_speltMany M a) b = ms_speltMany (ms_undoMany M b) a := mcFF M 1 20 a b (by decide)
theorem mc_tape_taped (M : MT) (a : Int32) (b : Nat → Int32) : ms_tape (ms_taped M a) b = ms_taped (ms_tape M b) a := mcAF M 3 2 a b
theorem mc_tape_size (M : MT) (a : Int32) (b : Nat → Int32) : ms_tape (ms_size M a) b = ms_size (ms_tape M b) a := mcAF M 3 3 a b
theorem mc_tape_at (M : MT) (a : Int32) (b : Nat → Int32) : ms_tape (ms_at M a) b = ms_at (ms_tape M b) a := mcAF M 3 4 a b
theorem mc_tape_token (M : MT) (a : Int32) (b : Nat → Int32) : ms_tape (ms_token M a) b = ms_token (ms_tape M b) a := mcAF M 3 5 a b
theorem mc_tape_from (M : MT) (a : Int32) (b : Nat → Int32) : ms_tape (ms_from M a) b = ms_from (ms_tape M b) a := mcAF M 3 6 a b
theorem mc_tape_value (M : MT) (a : Int32) (b : Nat → Int32) : ms_tape (ms_value M a) b = ms_value (ms_tape M b) a := mcAF M 3 7 a b
theorem mc_tape_fault (M : MT) (a : Int32) (b : Nat → Int32) : ms_tape (ms_fault M a) b = ms_fault (ms_tape M b) a := mcAF M 3 8 a b
theorem mc_tape_sold (M : MT) (a : Nat → Int32) (b : Nat → Int32) : ms_tape (ms_sold M a) b = ms_sold (ms_tape M b) a := mcAA M 3 4 a b (by decide)
theorem mc_tape_sells (M : MT) (a : Nat → Int32) (b : Nat → Int32) : ms_tape (ms_sells M a) b = ms_sells (ms_tape M b) a := mcAA M 3 5 a b (by decide)
theorem mc_tape_fallen (M : MT) (a : Int32) (b : Nat → Int32) : ms_tape (ms_fallen M a) b = ms_fallen (ms_tape M b) a := mcAF M 3 9 a b
theorem mc_tape_willFall (M : MT) (a : Int32) (b : Nat → Int32) : ms_tape (ms_willFall M a) b = ms_willFall (ms_tape M b) a := mcAF M 3 10 a b
theorem mc_tape_rounds (M : MT) (a : Int32) (b : Nat → Int32) : ms_tape (ms_rounds M a) b = ms_rounds (ms_tape M b) a := mcAF M 3 11 a b
theorem mc_tape_coins (M : MT) (a : Nat → Int32) (b : Nat → Int32) : ms_tape (ms_coins M a) b = ms_coins (ms_tape M b) a := mcAA M 3 6 a b (by decide)
theorem mc_tape_extraOf (M : MT) (a : Int32) (b : Nat → Int32) : ms_tape (ms_extraOf M a) b = ms_extraOf (ms_tape M b) a := mcAF M 3 12 a b
theorem mc_tape_extraCap (M : MT) (a : Int32) (b : Nat → Int32) : ms_tape (ms_extraCap M a) b = ms_extraCap (ms_tape M b) a := mcAF M 3 13 a b
theorem mc_tape_extraShock (M : MT) (a : Int32) (b : Nat → Int32) : ms_tape (ms_extraShock M a) b = ms_extraShock (ms_tape M b) a := mcAF M 3 14 a b
theorem mc_tape_buyerOf (M : MT) (a : Int32) (b : Nat → Int32) : ms_tape (ms_buyerOf M a) b = ms_buyerOf (ms_tape M b) a := mcAF M 3 15 a b
theorem mc_tape_buys (M : MT) (a : Int32) (b : Nat → Int32) : ms_tape (ms_buys M a) b = ms_buys (ms_tape M b) a := mcAF M 3 16 a b
theorem mc_tape_part (M : MT) (a : Int32) (b : Nat → Int32) : ms_tape (ms_part M a) b = ms_part (ms_tape M b) a := mcAF M 3 17 a b
theorem mc_tape_forced (M : MT) (a : Int32) (b : Nat → Int32) : ms_tape (ms_forced M a) b = ms_forced (ms_tape M b) a := mcAF M 3 18 a b
theorem mc_tape_left (M : MT) (a : Nat → Int32) (b : Nat → Int32) : ms_tape (ms_left M a) b = ms_left (ms_tape M b) a := mcAA M 3 7 a b (by decide)
theorem mc_tape_prices (M : MT) (a : Nat → Int32) (b : Nat → Int32) : ms_tape (ms_prices M a) b = ms_prices (ms_tape M b) a := mcAA M 3 8 a b (by decide)
theorem mc_tape_musts (M : MT) (a : Nat → Int32) (b : Nat → Int32) : ms_tape (ms_musts M a) b = ms_musts (ms_tape M b) a := mcAA M 3 9 a b (by decide)
theorem mc_tape_fell (M : MT) (a : Nat → Int32) (b : Nat → Int32) : ms_tape (ms_fell M a) b = ms_fell (ms_tape M b) a := mcAA M 3 10 a b (by decide)
theorem mc_tape_leastLost (M : MT) (a : Int32) (b : Nat → Int32) : ms_tape (ms_leastLost M a) b = ms_leastLost (ms_tape M b) a := mcAF M 3 19 a b
theorem mc_tape_gifts (M : MT) (a : Nat → Int32) (b : Nat → Int32) : ms_tape (ms_gifts M a) b = ms_gifts (ms_tape M b) a := mcAA M 3 11 a b (by decide)
theorem mc_tape_bestGifts (M : MT) (a : Nat → Int32) (b : Nat → Int32) : ms_tape (ms_bestGifts M a) b = ms_bestGifts (ms_tape M b) a := mcAA M 3 12 a b (by decide)
theorem mc_tape_spelt (M : MT) (a : Nat → Int32) (b : Nat → Int32) : ms_tape (ms_spelt M a) b = ms_spelt (ms_tape M b) a := mcAA M 3 13 a b (by decide)
theorem mc_tape_speltMany (M : MT) (a : Int32) (b : Nat → Int32) : ms_tape (ms_speltMany M a) b = ms_speltMany (ms_tape M b) a := mcAF M 3 20 a b
theorem mc_taped_size (M : MT) (a : Int32) (b : Int32) : ms_taped (ms_size M a) b = ms_size (ms_taped M b) a := mcFF M 2 3 a b (by decide)
theorem mc_taped_at (M : MT) (a : Int32) (b : Int32) : ms_taped (ms_at M a) b = ms_at (ms_taped M b) a := mcFF M 2 4 a b (by decide)
theorem mc_taped_token (M : MT) (a : Int32) (b : Int32) : ms_taped (ms_token M a) b = ms_token (ms_taped M b) a := mcFF M 2 5 a b (by decide)
theorem mc_taped_from (M : MT) (a : Int32) (b : Int32) : ms_taped (ms_from M a) b = ms_from (ms_taped M b) a := mcFF M 2 6 a b (by decide)
theorem mc_taped_value (M : MT) (a : Int32) (b : Int32) : ms_taped (ms_value M a) b = ms_value (ms_taped M b) a := mcFF M 2 7 a b (by decide)
theorem mc_taped_fault (M : MT) (a : Int32) (b : Int32) : ms_taped (ms_fault M a) b = ms_fault (ms_taped M b) a := mcFF M 2 8 a b (by decide)
theorem mc_taped_sold (M : MT) (a : Nat → Int32) (b : Int32) : ms_taped (ms_sold M a) b = ms_sold (ms_taped M b) a := mcFA M 2 4 a b
theorem mc_taped_sells (M : MT) (a : Nat → Int32) (b : Int32) : ms_taped (ms_sells M a) b = ms_sells (ms_taped M b) a := mcFA M 2 5 a b
theorem mc_taped_fallen (M : MT) (a : Int32) (b : Int32) : ms_taped (ms_fallen M a) b = ms_fallen (ms_taped M b) a := mcFF M 2 9 a b (by decide)
theorem mc_taped_willFall (M : MT) (a : Int32) (b : Int32) : ms_taped (ms_willFall M a) b = ms_willFall (ms_taped M b) a := mcFF M 2 10 a b (by decide)
theorem mc_taped_rounds (M : MT) (a : Int32) (b : Int32) : ms_taped (ms_rounds M a) b = ms_rounds (ms_taped M b) a := mcFF M 2 11 a b (by decide)
theorem mc_taped_coins (M : MT) (a : Nat → Int32) (b : Int32) : ms_taped (ms_coins M a) b = ms_coins (ms_taped M b) a := mcFA M 2 6 a b
theorem mc_taped_extraOf (M : MT) (a : Int32) (b : Int32) : ms_taped (ms_extraOf M a) b = ms_extraOf (ms_taped M b) a := mcFF M 2 12 a b (by decide)
theorem mc_taped_extraCap (M : MT) (a : Int32) (b : Int32) : ms_taped (ms_extraCap M a) b = ms_extraCap (ms_taped M b) a := mcFF M 2 13 a b (by decide)
theorem mc_taped_extraShock (M : MT) (a : Int32) (b : Int32) : ms_taped (ms_extraShock M a) b = ms_extraShock (ms_taped M b) a := mcFF M 2 14 a b (by decide)
theorem mc_taped_buyerOf (M : MT) (a : Int32) (b : Int32) : ms_taped (ms_buyerOf M a) b = ms_buyerOf (ms_taped M b) a := mcFF M 2 15 a b (by decide)
theorem mc_taped_buys (M : MT) (a : Int32) (b : Int32) : ms_taped (ms_buys M a) b = ms_buys (ms_taped M b) a := mcFF M 2 16 a b (by decide)
theorem mc_taped_part (M : MT) (a : Int32) (b : Int32) : ms_taped (ms_part M a) b = ms_part (ms_taped M b) a := mcFF M 2 17 a b (by decide)
theorem mc_taped_forced (M : MT) (a : Int32) (b : Int32) : ms_taped (ms_forced M a) b = ms_forced (ms_taped M b) a := mcFF M 2 18 a b (by decide)
theorem mc_taped_left (M : MT) (a : Nat → Int32) (b : Int32) : ms_taped (ms_left M a) b = ms_left (ms_taped M b) a := mcFA M 2 7 a b
theorem mc_taped_prices (M : MT) (a : Nat → Int32) (b : Int32) : ms_taped (ms_prices M a) b = ms_prices (ms_taped M b) a := mcFA M 2 8 a b
theorem mc_taped_musts (M : MT) (a : Nat → Int32) (b : Int32) : ms_taped (ms_musts M a) b = ms_musts (ms_taped M b) a := mcFA M 2 9 a b
theorem mc_taped_fell (M : MT) (a : Nat → Int32) (b : Int32) : ms_taped (ms_fell M a) b = ms_fell (ms_taped M b) a := mcFA M 2 10 a b
theorem mc_taped_leastLost (M : MT) (a : Int32) (b : Int32) : ms_taped (ms_leastLost M a) b = ms_leastLost (ms_taped M b) a := mcFF M 2 19 a b (by decide)
theorem mc_taped_gifts (M : MT) (a : Nat → Int32) (b : Int32) : ms_taped (ms_gifts M a) b = ms_gifts (ms_taped M b) a := mcFA M 2 11 a b
theorem mc_taped_bestGifts (M : MT) (a : Nat → Int32) (b : Int32) : ms_taped (ms_bestGifts M a) b = ms_bestGifts (ms_taped M b) a := mcFA M 2 12 a b
theorem mc_taped_spelt (M : MT) (a : Nat → Int32) (b : Int32) : ms_taped (ms_spelt M a) b = ms_spelt (ms_taped M b) a := mcFA M 2 13 a b
theorem mc_taped_speltMany (M : MT) (a : Int32) (b : Int32) : ms_taped (ms_speltMany M a) b = ms_speltMany (ms_taped M b) a := mcFF M 2 20 a b (by decide)
theorem mc_size_at (M : MT) (a : Int32) (b : Int32) : ms_size (ms_at M a) b = ms_at (ms_size M b) a := mcFF M 3 4 a b (by decide)
theorem mc_size_token (M : MT) (a : Int32) (b : Int32) : ms_size (ms_token M a) b = ms_token (ms_size M b) a := mcFF M 3 5 a b (by decide)
theorem mc_size_from (M : MT) (a : Int32) (b : Int32) : ms_size (ms_from M a) b = ms_from (ms_size M b) a := mcFF M 3 6 a b (by decide)
theorem mc_size_value (M : MT) (a : Int32) (b : Int32) : ms_size (ms_value M a) b = ms_value (ms_size M b) a := mcFF M 3 7 a b (by decide)
theorem mc_size_fault (M : MT) (a : Int32) (b : Int32) : ms_size (ms_fault M a) b = ms_fault (ms_size M b) a := mcFF M 3 8 a b (by decide)
theorem mc_size_sold (M : MT) (a : Nat → Int32) (b : Int32) : ms_size (ms_sold M a) b = ms_sold (ms_size M b) a := mcFA M 3 4 a b
theorem mc_size_sells (M : MT) (a : Nat → Int32) (b : Int32) : ms_size (ms_sells M a) b = ms_sells (ms_size M b) a := mcFA M 3 5 a b
theorem mc_size_fallen (M : MT) (a : Int32) (b : Int32) : ms_size (ms_fallen M a) b = ms_fallen (ms_size M b) a := mcFF M 3 9 a b (by decide)
theorem mc_size_willFall (M : MT) (a : Int32) (b : Int32) : ms_size (ms_willFall M a) b = ms_willFall (ms_size M b) a := mcFF M 3 10 a b (by decide)
theorem mc_size_rounds (M : MT) (a : Int32) (b : Int32) : ms_size (ms_rounds M a) b = ms_rounds (ms_size M b) a := mcFF M 3 11 a b (by decide)
theorem mc_size_coins (M : MT) (a : Nat → Int32) (b : Int32) : ms_size (ms_coins M a) b = ms_coins (ms_size M b) a := mcFA M 3 6 a b
theorem mc_size_extraOf (M : MT) (a : Int32) (b : Int32) : ms_size (ms_extraOf M a) b = ms_extraOf (ms_size M b) a := mcFF M 3 12 a b (by decide)
theorem mc_size_extraCap (M : MT) (a : Int32) (b : Int32) : ms_size (ms_extraCap M a) b = ms_extraCap (ms_size M b) a := mcFF M 3 13 a b (by decide)
theorem mc_size_extraShock (M : MT) (a : Int32) (b : Int32) : ms_size (ms_extraShock M a) b = ms_extraShock (ms_size M b) a := mcFF M 3 14 a b (by decide)
theorem mc_size_buyerOf (M : MT) (a : Int32) (b : Int32) : ms_size (ms_buyerOf M a) b = ms_buyerOf (ms_size M b) a := mcFF M 3 15 a b (by decide)
theorem mc_size_buys (M : MT) (a : Int32) (b : Int32) : ms_size (ms_buys M a) b = ms_buys (ms_size M b) a := mcFF M 3 16 a b (by decide)
theorem mc_size_part (M : MT) (a : Int32) (b : Int32) : ms_size (ms_part M a) b = ms_part (ms_size M b) a := mcFF M 3 17 a b (by decide)
theorem mc_size_forced (M : MT) (a : Int32) (b : Int32) : ms_size (ms_forced M a) b = ms_forced (ms_size M b) a := mcFF M 3 18 a b (by decide)
theorem mc_size_left (M : MT) (a : Nat → Int32) (b : Int32) : ms_size (ms_left M a) b = ms_left (ms_size M b) a := mcFA M 3 7 a b
theorem mc_size_prices (M : MT) (a : Nat → Int32) (b : Int32) : ms_size (ms_prices M a) b = ms_prices (ms_size M b) a := mcFA M 3 8 a b
theorem mc_size_musts (M : MT) (a : Nat → Int32) (b : Int32) : ms_size (ms_musts M a) b = ms_musts (ms_size M b) a := mcFA M 3 9 a b
theorem mc_size_fell (M : MT) (a : Nat → Int32) (b : Int32) : ms_size (ms_fell M a) b = ms_fell (ms_size M b) a := mcFA M 3 10 a b
theorem mc_size_leastLost (M : MT) (a : Int32) (b : Int32) : ms_size (ms_leastLost M a) b = ms_leastLost (ms_size M b) a := mcFF M 3 19 a b (by decide)
theorem mc_size_gifts (M : MT) (a : Nat → Int32) (b : Int32) : ms_size (ms_gifts M a) b = ms_gifts (ms_size M b) a := mcFA M 3 11 a b
theorem mc_size_bestGifts (M : MT) (a : Nat → Int32) (b : Int32) : ms_size (ms_bestGifts M a) b = ms_bestGifts (ms_size M b) a := mcFA M 3 12 a b
theorem mc_size_spelt (M : MT) (a : Nat → Int32) (b : Int32) : ms_size (ms_spelt M a) b = ms_spelt (ms_size M b) a := mcFA M 3 13 a b
theorem mc_size_speltMany (M : MT) (a : Int32) (b : Int32) : ms_size (ms_speltMany M a) b = ms_speltMany (ms_size M b) a := mcFF M 3 20 a b (by decide)
theorem mc_at_token (M : MT) (a : Int32) (b : Int32) : ms_at (ms_token M a) b = ms_token (ms_at M b) a := mcFF M 4 5 a b (by decide)
theorem mc_at_from (M : MT) (a : Int32) (b : Int32) : ms_at (ms_from M a) b = ms_from (ms_at M b) a := mcFF M 4 6 a b (by decide)
theorem mc_at_value (M : MT) (a : Int32) (b : Int32) : ms_at (ms_value M a) b = ms_value (ms_at M b) a := mcFF M 4 7 a b (by decide)
theorem mc_at_fault (M : MT) (a : Int32) (b : Int32) : ms_at (ms_fault M a) b = ms_fault (ms_at M b) a := mcFF M 4 8 a b (by decide)
theorem mc_at_sold (M : MT) (a : Nat → Int32) (b : Int32) : ms_at (ms_sold M a) b = ms_sold (ms_at M b) a := mcFA M 4 4 a b
theorem mc_at_sells (M : MT) (a : Nat → Int32) (b : Int32) : ms_at (ms_sells M a) b = ms_sells (ms_at M b) a := mcFA M 4 5 a b
theorem mc_at_fallen (M : MT) (a : Int32) (b : Int32) : ms_at (ms_fallen M a) b = ms_fallen (ms_at M b) a := mcFF M 4 9 a b (by decide)
theorem mc_at_willFall (M : MT) (a : Int32) (b : Int32) : ms_at (ms_willFall M a) b = ms_willFall (ms_at M b) a := mcFF M 4 10 a b (by decide)
theorem mc_at_rounds (M : MT) (a : Int32) (b : Int32) : ms_at (ms_rounds M a) b = ms_rounds (ms_at M b) a := mcFF M 4 11 a b (by decide)
theorem mc_at_coins (M : MT) (a : Nat → Int32) (b : Int32) : ms_at (ms_coins M a) b = ms_coins (ms_at M b) a := mcFA M 4 6 a b
theorem mc_at_extraOf (M : MT) (a : Int32) (b : Int32) : ms_at (ms_extraOf M a) b = ms_extraOf (ms_at M b) a := mcFF M 4 12 a b (by decide)
theorem mc_at_extraCap (M : MT) (a : Int32) (b : Int32) : ms_at (ms_extraCap M a) b = ms_extraCap (ms_at M b) a := mcFF M 4 13 a b (by decide)
theorem mc_at_extraShock (M : MT) (a : Int32) (b : Int32) : ms_at (ms_extraShock M a) b = ms_extraShock (ms_at M b) a := mcFF M 4 14 a b (by decide)
theorem mc_at_buyerOf (M : MT) (a : Int32) (b : Int32) : ms_at (ms_buyerOf M a) b = ms_buyerOf (ms_at M b) a := mcFF M 4 15 a b (by decide)
theorem mc_at_buys (M : MT) (a : Int32) (b : Int32) : ms_at (ms_buys M a) b = ms_buys (ms_at M b) a := mcFF M 4 16 a b (by decide)
theorem mc_at_part (M : MT) (a : Int32) (b : Int32) : ms_at (ms_part M a) b = ms_part (ms_at M b) a := mcFF M 4 17 a b (by decide)
theorem mc_at_forced (M : MT) (a : Int32) (b : Int32) : ms_at (ms_forced M a) b = ms_forced (ms_at M b) a := mcFF M 4 18 a b (by decide)
theorem mc_at_left (M : MT) (a : Nat → Int32) (b : Int32) : ms_at (ms_left M a) b = ms_left (ms_at M b) a := mcFA M 4 7 a b
theorem mc_at_prices (M : MT) (a : Nat → Int32) (b : Int32) : ms_at (ms_prices M a) b = ms_prices (ms_at M b) a := mcFA M 4 8 a b
theorem mc_at_musts (M : MT) (a : Nat → Int32) (b : Int32) : ms_at (ms_musts M a) b = ms_musts (ms_at M b) a := mcFA M 4 9 a b
theorem mc_at_fell (M : MT) (a : Nat → Int32) (b : Int32) : ms_at (ms_fell M a) b = ms_fell (ms_at M b) a := mcFA M 4 10 a b
theorem mc_at_leastLost (M : MT) (a : Int32) (b : Int32) : ms_at (ms_leastLost M a) b = ms_leastLost (ms_at M b) a := mcFF M 4 19 a b (by decide)
theorem mc_at_gifts (M : MT) (a : Nat → Int32) (b : Int32) : ms_at (ms_gifts M a) b = ms_gifts (ms_at M b) a := mcFA M 4 11 a b
theorem mc_at_bestGifts (M : MT) (a : Nat → Int32) (b : Int32) : ms_at (ms_bestGifts M a) b = ms_bestGifts (ms_at M b) a := mcFA M 4 12 a b
theorem mc_at_spelt (M : MT) (a : Nat → Int32) (b : Int32) : ms_at (ms_spelt M a) b = ms_spelt (ms_at M b) a := mcFA M 4 13 a b
theorem mc_at_speltMany (M : MT) (a : Int32) (b : Int32) : ms_at (ms_speltMany M a) b = ms_speltMany (ms_at M b) a := mcFF M 4 20 a b (by decide)
theorem mc_token_from (M : MT) (a : Int32) (b : Int32) : ms_token (ms_from M a) b = ms_from (ms_token M b) a := mcFF M 5 6 a b (by decide)
theorem mc_token_value (M : MT) (a : Int32) (b : Int32) : ms_token (ms_value M a) b = ms_value (ms_token M b) a := mcFF M 5 7 a b (by decide)
theorem mc_token_fault (M : MT) (a : Int32) (b : Int32) : ms_token (ms_fault M a) b = ms_fault (ms_token M b) a := mcFF M 5 8 a b (by decide)
theorem mc_token_sold (M : MT) (a : Nat → Int32) (b : Int32) : ms_token (ms_sold M a) b = ms_sold (ms_token M b) a := mcFA M 5 4 a b
theorem mc_token_sells (M : MT) (a : Nat → Int32) (b : Int32) : ms_token (ms_sells M a) b = ms_sells (ms_token M b) a := mcFA M 5 5 a b
theorem mc_token_fallen (M : MT) (a : Int32) (b : Int32) : ms_token (ms_fallen M a) b = ms_fallen (ms_token M b) a := mcFF M 5 9 a b (by decide)
theorem mc_token_willFall (M : MT) (a : Int32) (b : Int32) : ms_token (ms_willFall M a) b = ms_willFall (ms_token M b) a := mcFF M 5 10 a b (by decide)
theorem mc_token_rounds (M : MT) (a : Int32) (b : Int32) : ms_token (ms_rounds M a) b = ms_rounds (ms_token M b) a := mcFF M 5 11 a b (by decide)
theorem mc_token_coins (M : MT) (a : Nat → Int32) (b : Int32) : ms_token (ms_coins M a) b = ms_coins (ms_token M b) a := mcFA M 5 6 a b
theorem mc_token_extraOf (M : MT) (a : Int32) (b : Int32) : ms_token (ms_extraOf M a) b = ms_extraOf (ms_token M b) a := mcFF M 5 12 a b (by decide)
theorem mc_token_extraCap (M : MT) (a : Int32) (b : Int32) : ms_token (ms_extraCap M a) b = ms_extraCap (ms_token M b) a := mcFF M 5 13 a b (by decide)
theorem mc_token_extraShock (M : MT) (a : Int32) (b : Int32) : ms_token (ms_extraShock M a) b = ms_extraShock (ms_token M b) a := mcFF M 5 14 a b (by decide)
theorem mc_token_buyerOf (M : MT) (a : Int32) (b : Int32) : ms_token (ms_buyerOf M a) b = ms_buyerOf (ms_token M b) a := mcFF M 5 15 a b (by decide)
theorem mc_token_buys (M : MT) (a : Int32) (b : Int32) : ms_token (ms_buys M a) b = ms_buys (ms_token M b) a := mcFF M 5 16 a b (by decide)
theorem mc_token_part (M : MT) (a : Int32) (b : Int32) : ms_token (ms_part M a) b = ms_part (ms_token M b) a := mcFF M 5 17 a b (by decide)
theorem mc_token_forced (M : MT) (a : Int32) (b : Int32) : ms_token (ms_forced M a) b = ms_forced (ms_token M b) a := mcFF M 5 18 a b (by decide)
theorem mc_token_left (M : MT) (a : Nat → Int32) (b : Int32) : ms_token (ms_left M a) b = ms_left (ms_token M b) a := mcFA M 5 7 a b
theorem mc_token_prices (M : MT) (a : Nat → Int32) (b : Int32) : ms_token (ms_prices M a) b = ms_prices (ms_token M b) a := mcFA M 5 8 a b
theorem mc_token_musts (M : MT) (a : Nat → Int32) (b : Int32) : ms_token (ms_musts M a) b = ms_musts (ms_token M b) a := mcFA M 5 9 a b
theorem mc_token_fell (M : MT) (a : Nat → Int32) (b : Int32) : ms_token (ms_fell M a) b = ms_fell (ms_token M b) a := mcFA M 5 10 a b
theorem mc_token_leastLost (M : MT) (a : Int32) (b : Int32) : ms_token (ms_leastLost M a) b = ms_leastLost (ms_token M b) a := mcFF M 5 19 a b (by decide)
theorem mc_token_gifts (M : MT) (a : Nat → Int32) (b : Int32) : ms_token (ms_gifts M a) b = ms_gifts (ms_token M b) a := mcFA M 5 11 a b
theorem mc_token_bestGifts (M : MT) (a : Nat → Int32) (b : Int32) : ms_token (ms_bestGifts M a) b = ms_bestGifts (ms_token M b) a := mcFA M 5 12 a b
theorem mc_token_spelt (M : MT) (a : Nat → Int32) (b : Int32) : ms_token (ms_spelt M a) b = ms_spelt (ms_token M b) a := mcFA M 5 13 a b
theorem mc_token_speltMany (M : MT) (a : Int32) (b : Int32) : ms_token (ms_speltMany M a) b = ms_speltMany (ms_token M b) a := mcFF M 5 20 a b (by decide)
theorem mc_from_value (M : MT) (a : Int32) (b : Int32) : ms_from (ms_value M a) b = ms_value (ms_from M b) a := mcFF M 6 7 a b (by decide)
theorem mc_from_fault (M : MT) (a : Int32) (b : Int32) : ms_from (ms_fault M a) b = ms_fault (ms_from M b) a := mcFF M 6 8 a b (by decide)
theorem mc_from_sold (M : MT) (a : Nat → Int32) (b : Int32) : ms_from (ms_sold M a) b = ms_sold (ms_from M b) a := mcFA M 6 4 a b
theorem mc_from_sells (M : MT) (a : Nat → Int32) (b : Int32) : ms_from (ms_sells M a) b = ms_sells (ms_from M b) a := mcFA M 6 5 a b
theorem mc_from_fallen (M : MT) (a : Int32) (b : Int32) : ms_from (ms_fallen M a) b = ms_fallen (ms_from M b) a := mcFF M 6 9 a b (by decide)
theorem mc_from_willFall (M : MT) (a : Int32) (b : Int32) : ms_from (ms_willFall M a) b = ms_willFall (ms_from M b) a := mcFF M 6 10 a b (by decide)
theorem mc_from_rounds (M : MT) (a : Int32) (b : Int32) : ms_from (ms_rounds M a) b = ms_rounds (ms_from M b) a := mcFF M 6 11 a b (by decide)
theorem mc_from_coins (M : MT) (a : Nat → Int32) (b : Int32) : ms_from (ms_coins M a) b = ms_coins (ms_from M b) a := mcFA M 6 6 a b
theorem mc_from_extraOf (M : MT) (a : Int32) (b : Int32) : ms_from (ms_extraOf M a) b = ms_extraOf (ms_from M b) a := mcFF M 6 12 a b (by decide)
theorem mc_from_extraCap (M : MT) (a : Int32) (b : Int32) : ms_from (ms_extraCap M a) b = ms_extraCap (ms_from M b) a := mcFF M 6 13 a b (by decide)
theorem mc_from_extraShock (M : MT) (a : Int32) (b : Int32) : ms_from (ms_extraShock M a) b = ms_extraShock (ms_from M b) a := mcFF M 6 14 a b (by decide)
theorem mc_from_buyerOf (M : MT) (a : Int32) (b : Int32) : ms_from (ms_buyerOf M a) b = ms_buyerOf (ms_from M b) a := mcFF M 6 15 a b (by decide)
theorem mc_from_buys (M : MT) (a : Int32) (b : Int32) : ms_from (ms_buys M a) b = ms_buys (ms_from M b) a := mcFF M 6 16 a b (by decide)
theorem mc_from_part (M : MT) (a : Int32) (b : Int32) : ms_from (ms_part M a) b = ms_part (ms_from M b) a := mcFF M 6 17 a b (by decide)
theorem mc_from_forced (M : MT) (a : Int32) (b : Int32) : ms_from (ms_forced M a) b = ms_forced (ms_from M b) a := mcFF M 6 18 a b (by decide)
theorem mc_from_left (M : MT) (a : Nat → Int32) (b : Int32) : ms_from (ms_left M a) b = ms_left (ms_from M b) a := mcFA M 6 7 a b
theorem mc_from_prices (M : MT) (a : Nat → Int32) (b : Int32) : ms_from (ms_prices M a) b = ms_prices (ms_from M b) a := mcFA M 6 8 a b
theorem mc_from_musts (M : MT) (a : Nat → Int32) (b : Int32) : ms_from (ms_musts M a) b = ms_musts (ms_from M b) a := mcFA M 6 9 a b
theorem mc_from_fell (M : MT) (a : Nat → Int32) (b : Int32) : ms_from (ms_fell M a) b = ms_fell (ms_from M b) a := mcFA M 6 10 a b
theorem mc_from_leastLost (M : MT) (a : Int32) (b : Int32) : ms_from (ms_leastLost M a) b = ms_leastLost (ms_from M b) a := mcFF M 6 19 a b (by decide)
theorem mc_from_gifts (M : MT) (a : Nat → Int32) (b : Int32) : ms_from (ms_gifts M a) b = ms_gifts (ms_from M b) a := mcFA M 6 11 a b
theorem mc_from_bestGifts (M : MT) (a : Nat → Int32) (b : Int32) : ms_from (ms_bestGifts M a) b = ms_bestGifts (ms_from M b) a := mcFA M 6 12 a b
theorem mc_from_spelt (M : MT) (a : Nat → Int32) (b : Int32) : ms_from (ms_spelt M a) b = ms_spelt (ms_from M b) a := mcFA M 6 13 a b
theorem mc_from_speltMany (M : MT) (a : Int32) (b : Int32) : ms_from (ms_speltMany M a) b = ms_speltMany (ms_from M b) a := mcFF M 6 20 a b (by decide)
theorem mc_value_fault (M : MT) (a : Int32) (b : Int32) : ms_value (ms_fault M a) b = ms_fault (ms_value M b) a := mcFF M 7 8 a b (by decide)
theorem mc_value_sold (M : MT) (a : Nat → Int32) (b : Int32) : ms_value (ms_sold M a) b = ms_sold (ms_value M b) a := mcFA M 7 4 a b
theorem mc_value_sells (M : MT) (a : Nat → Int32) (b : Int32) : ms_value (ms_sells M a) b = ms_sells (ms_value M b) a := mcFA M 7 5 a b
theorem mc_value_fallen (M : MT) (a : Int32) (b : Int32) : ms_value (ms_fallen M a) b = ms_fallen (ms_value M b) a := mcFF M 7 9 a b (by decide)
theorem mc_value_willFall (M : MT) (a : Int32) (b : Int32) : ms_value (ms_willFall M a) b = ms_willFall (ms_value M b) a := mcFF M 7 10 a b (by decide)
theorem mc_value_rounds (M : MT) (a : Int32) (b : Int32) : ms_value (ms_rounds M a) b = ms_rounds (ms_value M b) a := mcFF M 7 11 a b (by decide)
theorem mc_value_coins (M : MT) (a : Nat → Int32) (b : Int32) : ms_value (ms_coins M a) b = ms_coins (ms_value M b) a := mcFA M 7 6 a b
theorem mc_value_extraOf (M : MT) (a : Int32) (b : Int32) : ms_value (ms_extraOf M a) b = ms_extraOf (ms_value M b) a := mcFF M 7 12 a b (by decide)
theorem mc_value_extraCap (M : MT) (a : Int32) (b : Int32) : ms_value (ms_extraCap M a) b = ms_extraCap (ms_value M b) a := mcFF M 7 13 a b (by decide)
theorem mc_value_extraShock (M : MT) (a : Int32) (b : Int32) : ms_value (ms_extraShock M a) b = ms_extraShock (ms_value M b) a := mcFF M 7 14 a b (by decide)
theorem mc_value_buyerOf (M : MT) (a : Int32) (b : Int32) : ms_value (ms_buyerOf M a) b = ms_buyerOf (ms_value M b) a := mcFF M 7 15 a b (by decide)
theorem mc_value_buys (M : MT) (a : Int32) (b : Int32) : ms_value (ms_buys M a) b = ms_buys (ms_value M b) a := mcFF M 7 16 a b (by decide)
theorem mc_value_part (M : MT) (a : Int32) (b : Int32) : ms_value (ms_part M a) b = ms_part (ms_value M b) a := mcFF M 7 17 a b (by decide)
theorem mc_value_forced (M : MT) (a : Int32) (b : Int32) : ms_value (ms_forced M a) b = ms_forced (ms_value M b) a := mcFF M 7 18 a b (by decide)
theorem mc_value_left (M : MT) (a : Nat → Int32) (b : Int32) : ms_value (ms_left M a) b = ms_left (ms_value M b) a := mcFA M 7 7 a b
theorem mc_value_prices (M : MT) (a : Nat → Int32) (b : Int32) : ms_value (ms_prices M a) b = ms_prices (ms_value M b) a := mcFA M 7 8 a b
theorem mc_value_musts (M : MT) (a : Nat → Int32) (b : Int32) : ms_value (ms_musts M a) b = ms_musts (ms_value M b) a := mcFA M 7 9 a b
theorem mc_value_fell (M : MT) (a : Nat → Int32) (b : Int32) : ms_value (ms_fell M a) b = ms_fell (ms_value M b) a := mcFA M 7 10 a b
theorem mc_value_leastLost (M : MT) (a : Int32) (b : Int32) : ms_value (ms_leastLost M a) b = ms_leastLost (ms_value M b) a := mcFF M 7 19 a b (by decide)
theorem mc_value_gifts (M : MT) (a : Nat → Int32) (b : Int32) : ms_value (ms_gifts M a) b = ms_gifts (ms_value M b) a := mcFA M 7 11 a b
theorem mc_value_bestGifts (M : MT) (a : Nat → Int32) (b : Int32) : ms_value (ms_bestGifts M a) b = ms_bestGifts (ms_value M b) a := mcFA M 7 12 a b
theorem mc_value_spelt (M : MT) (a : Nat → Int32) (b : Int32) : ms_value (ms_spelt M a) b = ms_spelt (ms_value M b) a := mcFA M 7 13 a b
theorem mc_value_speltMany (M : MT) (a : Int32) (b : Int32) : ms_value (ms_speltMany M a) b = ms_speltMany (ms_value M b) a := mcFF M 7 20 a b (by decide)
theorem mc_fault_sold (M : MT) (a : Nat → Int32) (b : Int32) : ms_fault (ms_sold M a) b = ms_sold (ms_fault M b) a := mcFA M 8 4 a b
theorem mc_fault_sells (M : MT) (a : Nat → Int32) (b : Int32) : ms_fault (ms_sells M a) b = ms_sells (ms_fault M b) a := mcFA M 8 5 a b
theorem mc_fault_fallen (M : MT) (a : Int32) (b : Int32) : ms_fault (ms_fallen M a) b = ms_fallen (ms_fault M b) a := mcFF M 8 9 a b (by decide)
theorem mc_fault_willFall (M : MT) (a : Int32) (b : Int32) : ms_fault (ms_willFall M a) b = ms_willFall (ms_fault M b) a := mcFF M 8 10 a b (by decide)
theorem mc_fault_rounds (M : MT) (a : Int32) (b : Int32) : ms_fault (ms_rounds M a) b = ms_rounds (ms_fault M b) a := mcFF M 8 11 a b (by decide)
theorem mc_fault_coins (M : MT) (a : Nat → Int32) (b : Int32) : ms_fault (ms_coins M a) b = ms_coins (ms_fault M b) a := mcFA M 8 6 a b
theorem mc_fault_extraOf (M : MT) (a : Int32) (b : Int32) : ms_fault (ms_extraOf M a) b = ms_extraOf (ms_fault M b) a := mcFF M 8 12 a b (by decide)
theorem mc_fault_extraCap (M : MT) (a : Int32) (b : Int32) : ms_fault (ms_extraCap M a) b = ms_extraCap (ms_fault M b) a := mcFF M 8 13 a b (by decide)
theorem mc_fault_extraShock (M : MT) (a : Int32) (b : Int32) : ms_fault (ms_extraShock M a) b = ms_extraShock (ms_fault M b) a := mcFF M 8 14 a b (by decide)
theorem mc_fault_buyerOf (M : MT) (a : Int32) (b : Int32) : ms_fault (ms_buyerOf M a) b = ms_buyerOf (ms_fault M b) a := mcFF M 8 15 a b (by decide)
theorem mc_fault_buys (M : MT) (a : Int32) (b : Int32) : ms_fault (ms_buys M a) b = ms_buys (ms_fault M b) a := mcFF M 8 16 a b (by decide)
theorem mc_fault_part (M : MT) (a : Int32) (b : Int32) : ms_fault (ms_part M a) b = ms_part (ms_fault M b) a := mcFF M 8 17 a b (by decide)
theorem mc_fault_forced (M : MT) (a : Int32) (b : Int32) : ms_fault (ms_forced M a) b = ms_forced (ms_fault M b) a := mcFF M 8 18 a b (by decide)
theorem mc_fault_left (M : MT) (a : Nat → Int32) (b : Int32) : ms_fault (ms_left M a) b = ms_left (ms_fault M b) a := mcFA M 8 7 a b
theorem mc_fault_prices (M : MT) (a : Nat → Int32) (b : Int32) : ms_fault (ms_prices M a) b = ms_prices (ms_fault M b) a := mcFA M 8 8 a b
theorem mc_fault_musts (M : MT) (a : Nat → Int32) (b : Int32) : ms_fault (ms_musts M a) b = ms_musts (ms_fault M b) a := mcFA M 8 9 a b
theorem mc_fault_fell (M : MT) (a : Nat → Int32) (b : Int32) : ms_fault (ms_fell M a) b = ms_fell (ms_fault M b) a := mcFA M 8 10 a b
theorem mc_fault_leastLost (M : MT) (a : Int32) (b : Int32) : ms_fault (ms_leastLost M a) b = ms_leastLost (ms_fault M b) a := mcFF M 8 19 a b (by decide)
theorem mc_fault_gifts (M : MT) (a : Nat → Int32) (b : Int32) : ms_fault (ms_gifts M a) b = ms_gifts (ms_fault M b) a := mcFA M 8 11 a b
theorem mc_fault_bestGifts (M : MT) (a : Nat → Int32) (b : Int32) : ms_fault (ms_bestGifts M a) b = ms_bestGifts (ms_fault M b) a := mcFA M 8 12 a b
theorem mc_fault_spelt (M : MT) (a : Nat → Int32) (b : Int32) : ms_fault (ms_spelt M a) b = ms_spelt (ms_fault M b) a := mcFA M 8 13 a b
theorem mc_fault_speltMany (M : MT) (a : Int32) (b : Int32) : ms_fault (ms_speltMany M a) b = ms_speltMany (ms_fault M b) a := mcFF M 8 20 a b (by decide)
theorem mc_sold_sells (M : MT) (a : Nat → Int32) (b : Nat → Int32) : ms_sold (ms_sells M a) b = ms_sells (ms_sold M b) a := mcAA M 4 5 a b (by decide)
theorem mc_sold_fallen (M : MT) (a : Int32) (b : Nat → Int32) : ms_sold (ms_fallen M a) b = ms_fallen (ms_sold M b) a := mcAF M 4 9 a b
theorem mc_sold_willFall (M : MT) (a : Int32) (b : Nat → Int32) : ms_sold (ms_willFall M a) b = ms_willFall (ms_sold M b) a := mcAF M 4 10 a b
theorem mc_sold_rounds (M : MT) (a : Int32) (b : Nat → Int32) : ms_sold (ms_rounds M a) b = ms_rounds (ms_sold M b) a := mcAF M 4 11 a b
theorem mc_sold_coins (M : MT) (a : Nat → Int32) (b : Nat → Int32) : ms_sold (ms_coins M a) b = ms_coins (ms_sold M b) a := mcAA M 4 6 a b (by decide)
theorem mc_sold_extraOf (M : MT) (a : Int32) (b : Nat → Int32) : ms_sold (ms_extraOf M a) b = ms_extraOf (ms_sold M b) a := mcAF M 4 12 a b
theorem mc_sold_extraCap (M : MT) (a : Int32) (b : Nat → Int32) : ms_sold (ms_extraCap M a) b = ms_extraCap (ms_sold M b) a := mcAF M 4 13 a b
theorem mc_sold_extraShock (M : MT) (a : Int32) (b : Nat → Int32) : ms_sold (ms_extraShock M a) b = ms_extraShock (ms_sold M b) a := mcAF M 4 14 a b
theorem mc_sold_buyerOf (M : MT) (a : Int32) (b : Nat → Int32) : ms_sold (ms_buyerOf M a) b = ms_buyerOf (ms_sold M b) a := mcAF M 4 15 a b
theorem mc_sold_buys (M : MT) (a : Int32) (b : Nat → Int32) : ms_sold (ms_buys M a) b = ms_buys (ms_sold M b) a := mcAF M 4 16 a b
theorem mc_sold_part (M : MT) (a : Int32) (b : Nat → Int32) : ms_sold (ms_part M a) b = ms_part (ms_sold M b) a := mcAF M 4 17 a b
theorem mc_sold_forced (M : MT) (a : Int32) (b : Nat → Int32) : ms_sold (ms_forced M a) b = ms_forced (ms_sold M b) a := mcAF M 4 18 a b
theorem mc_sold_left (M : MT) (a : Nat → Int32) (b : Nat → Int32) : ms_sold (ms_left M a) b = ms_left (ms_sold M b) a := mcAA M 4 7 a b (by decide)
theorem mc_sold_prices (M : MT) (a : Nat → Int32) (b : Nat → Int32) : ms_sold (ms_prices M a) b = ms_prices (ms_sold M b) a := mcAA M 4 8 a b (by decide)
theorem mc_sold_musts (M : MT) (a : Nat → Int32) (b : Nat → Int32) : ms_sold (ms_musts M a) b = ms_musts (ms_sold M b) a := mcAA M 4 9 a b (by decide)
theorem mc_sold_fell (M : MT) (a : Nat → Int32) (b : Nat → Int32) : ms_sold (ms_fell M a) b = ms_fell (ms_sold M b) a := mcAA M 4 10 a b (by decide)
theorem mc_sold_leastLost (M : MT) (a : Int32) (b : Nat → Int32) : ms_sold (ms_leastLost M a) b = ms_leastLost (ms_sold M b) a := mcAF M 4 19 a b
theorem mc_sold_gifts (M : MT) (a : Nat → Int32) (b : Nat → Int32) : ms_sold (ms_gifts M a) b = ms_gifts (ms_sold M b) a := mcAA M 4 11 a b (by decide)
theorem mc_sold_bestGifts (M : MT) (a : Nat → Int32) (b : Nat → Int32) : ms_sold (ms_bestGifts M a) b = ms_bestGifts (ms_sold M b) a := mcAA M 4 12 a b (by decide)
theorem mc_sold_spelt (M : MT) (a : Nat → Int32) (b : Nat → Int32) : ms_sold (ms_spelt M a) b = ms_spelt (ms_sold M b) a := mcAA M 4 13 a b (by decide)
theorem mc_sold_speltMany (M : MT) (a : Int32) (b : Nat → Int32) : ms_sold (ms_speltMany M a) b = ms_speltMany (ms_sold M b) a := mcAF M 4 20 a b
theorem mc_sells_fallen (M : MT) (a : Int32) (b : Nat → Int32) : ms_sells (ms_fallen M a) b = ms_fallen (ms_sells M b) a := mcAF M 5 9 a b
theorem mc_sells_willFall (M : MT) (a : Int32) (b : Nat → Int32) : ms_sells (ms_willFall M a) b = ms_willFall (ms_sells M b) a := mcAF M 5 10 a b
theorem mc_sells_rounds (M : MT) (a : Int32) (b : Nat → Int32) : ms_sells (ms_rounds M a) b = ms_rounds (ms_sells M b) a := mcAF M 5 11 a b
theorem mc_sells_coins (M : MT) (a : Nat → Int32) (b : Nat → Int32) : ms_sells (ms_coins M a) b = ms_coins (ms_sells M b) a := mcAA M 5 6 a b (by decide)
theorem mc_sells_extraOf (M : MT) (a : Int32) (b : Nat → Int32) : ms_sells (ms_extraOf M a) b = ms_extraOf (ms_sells M b) a := mcAF M 5 12 a b
theorem mc_sells_extraCap (M : MT) (a : Int32) (b : Nat → Int32) : ms_sells (ms_extraCap M a) b = ms_extraCap (ms_sells M b) a := mcAF M 5 13 a b
theorem mc_sells_extraShock (M : MT) (a : Int32) (b : Nat → Int32) : ms_sells (ms_extraShock M a) b = ms_extraShock (ms_sells M b) a := mcAF M 5 14 a b
theorem mc_sells_buyerOf (M : MT) (a : Int32) (b : Nat → Int32) : ms_sells (ms_buyerOf M a) b = ms_buyerOf (ms_sells M b) a := mcAF M 5 15 a b
theorem mc_sells_buys (M : MT) (a : Int32) (b : Nat → Int32) : ms_sells (ms_buys M a) b = ms_buys (ms_sells M b) a := mcAF M 5 16 a b
theorem mc_sells_part (M : MT) (a : Int32) (b : Nat → Int32) : ms_sells (ms_part M a) b = ms_part (ms_sells M b) a := mcAF M 5 17 a b
theorem mc_sells_forced (M : MT) (a : Int32) (b : Nat → Int32) : ms_sells (ms_forced M a) b = ms_forced (ms_sells M b) a := mcAF M 5 18 a b
theorem mc_sells_left (M : MT) (a : Nat → Int32) (b : Nat → Int32) : ms_sells (ms_left M a) b = ms_left (ms_sells M b) a := mcAA M 5 7 a b (by decide)
theorem mc_sells_prices (M : MT) (a : Nat → Int32) (b : Nat → Int32) : ms_sells (ms_prices M a) b = ms_prices (ms_sells M b) a := mcAA M 5 8 a b (by decide)
theorem mc_sells_musts (M : MT) (a : Nat → Int32) (b : Nat → Int32) : ms_sells (ms_musts M a) b = ms_musts (ms_sells M b) a := mcAA M 5 9 a b (by decide)
theorem mc_sells_fell (M : MT) (a : Nat → Int32) (b : Nat → Int32) : ms_sells (ms_fell M a) b = ms_fell (ms_sells M b) a := mcAA M 5 10 a b (by decide)
theorem mc_sells_leastLost (M : MT) (a : Int32) (b : Nat → Int32) : ms_sells (ms_leastLost M a) b = ms_leastLost (ms_sells M b) a := mcAF M 5 19 a b
theorem mc_sells_gifts (M : MT) (a : Nat → Int32) (b : Nat → Int32) : ms_sells (ms_gifts M a) b = ms_gifts (ms_sells M b) a := mcAA M 5 11 a b (by decide)
theorem mc_sells_bestGifts (M : MT) (a : Nat → Int32) (b : Nat → Int32) : ms_sells (ms_bestGifts M a) b = ms_bestGifts (ms_sells M b) a := mcAA M 5 12 a b (by decide)
theorem mc_sells_spelt (M : MT) (a : Nat → Int32) (b : Nat → Int32) : ms_sells (ms_spelt M a) b = ms_spelt (ms_sells M b) a := mcAA M 5 13 a b (by decide)
theorem mc_sells_speltMany (M : MT) (a : Int32) (b : Nat → Int32) : ms_sells (ms_speltMany M a) b = ms_speltMany (ms_sells M b) a := mcAF M 5 20 a b
theorem mc_fallen_willFall (M : MT) (a : Int32) (b : Int32) : ms_fallen (ms_willFall M a) b = ms_willFall (ms_fallen M b) a := mcFF M 9 10 a b (by decide)
theorem mc_fallen_rounds (M : MT) (a : Int32) (b : Int32) : ms_fallen (ms_rounds M a) b = ms_rounds (ms_fallen M b) a := mcFF M 9 11 a b (by decide)
theorem mc_fallen_coins (M : MT) (a : Nat → Int32) (b : Int32) : ms_fallen (ms_coins M a) b = ms_coins (ms_fallen M b) a := mcFA M 9 6 a b
theorem mc_fallen_extraOf (M : MT) (a : Int32) (b : Int32) : ms_fallen (ms_extraOf M a) b = ms_extraOf (ms_fallen M b) a := mcFF M 9 12 a b (by decide)
theorem mc_fallen_extraCap (M : MT) (a : Int32) (b : Int32) : ms_fallen (ms_extraCap M a) b = ms_extraCap (ms_fallen M b) a := mcFF M 9 13 a b (by decide)
theorem mc_fallen_extraShock (M : MT) (a : Int32) (b : Int32) : ms_fallen (ms_extraShock M a) b = ms_extraShock (ms_fallen M b) a := mcFF M 9 14 a b (by decide)
theorem mc_fallen_buyerOf (M : MT) (a : Int32) (b : Int32) : ms_fallen (ms_buyerOf M a) b = ms_buyerOf (ms_fallen M b) a := mcFF M 9 15 a b (by decide)
theorem mc_fallen_buys (M : MT) (a : Int32) (b : Int32) : ms_fallen (ms_buys M a) b = ms_buys (ms_fallen M b) a := mcFF M 9 16 a b (by decide)
theorem mc_fallen_part (M : MT) (a : Int32) (b : Int32) : ms_fallen (ms_part M a) b = ms_part (ms_fallen M b) a := mcFF M 9 17 a b (by decide)
theorem mc_fallen_forced (M : MT) (a : Int32) (b : Int32) : ms_fallen (ms_forced M a) b = ms_forced (ms_fallen M b) a := mcFF M 9 18 a b (by decide)
theorem mc_fallen_left (M : MT) (a : Nat → Int32) (b : Int32) : ms_fallen (ms_left M a) b = ms_left (ms_fallen M b) a := mcFA M 9 7 a b
theorem mc_fallen_prices (M : MT) (a : Nat → Int32) (b : Int32) : ms_fallen (ms_prices M a) b = ms_prices (ms_fallen M b) a := mcFA M 9 8 a b
theorem mc_fallen_musts (M : MT) (a : Nat → Int32) (b : Int32) : ms_fallen (ms_musts M a) b = ms_musts (ms_fallen M b) a := mcFA M 9 9 a b
theorem mc_fallen_fell (M : MT) (a : Nat → Int32) (b : Int32) : ms_fallen (ms_fell M a) b = ms_fell (ms_fallen M b) a := mcFA M 9 10 a b
theorem mc_fallen_leastLost (M : MT) (a : Int32) (b : Int32) : ms_fallen (ms_leastLost M a) b = ms_leastLost (ms_fallen M b) a := mcFF M 9 19 a b (by decide)
theorem mc_fallen_gifts (M : MT) (a : Nat → Int32) (b : Int32) : ms_fallen (ms_gifts M a) b = ms_gifts (ms_fallen M b) a := mcFA M 9 11 a b
theorem mc_fallen_bestGifts (M : MT) (a : Nat → Int32) (b : Int32) : ms_fallen (ms_bestGifts M a) b = ms_bestGifts (ms_fallen M b) a := mcFA M 9 12 a b
theorem mc_fallen_spelt (M : MT) (a : Nat → Int32) (b : Int32) : ms_fallen (ms_spelt M a) b = ms_spelt (ms_fallen M b) a := mcFA M 9 13 a b
theorem mc_fallen_speltMany (M : MT) (a : Int32) (b : Int32) : ms_fallen (ms_speltMany M a) b = ms_speltMany (ms_fallen M b) a := mcFF M 9 20 a b (by decide)
theorem mc_willFall_rounds (M : MT) (a : Int32) (b : Int32) : ms_willFall (ms_rounds M a) b = ms_rounds (ms_willFall M b) a := mcFF M 10 11 a b (by decide)
theorem mc_willFall_coins (M : MT) (a : Nat → Int32) (b : Int32) : ms_willFall (ms_coins M a) b = ms_coins (ms_willFall M b) a := mcFA M 10 6 a b
theorem mc_willFall_extraOf (M : MT) (a : Int32) (b : Int32) : ms_willFall (ms_extraOf M a) b = ms_extraOf (ms_willFall M b) a := mcFF M 10 12 a b (by decide)
theorem mc_willFall_extraCap (M : MT) (a : Int32) (b : Int32) : ms_willFall (ms_extraCap M a) b = ms_extraCap (ms_willFall M b) a := mcFF M 10 13 a b (by decide)
theorem mc_willFall_extraShock (M : MT) (a : Int32) (b : Int32) : ms_willFall (ms_extraShock M a) b = ms_extraShock (ms_willFall M b) a := mcFF M 10 14 a b (by decide)
theorem mc_willFall_buyerOf (M : MT) (a : Int32) (b : Int32) : ms_willFall (ms_buyerOf M a) b = ms_buyerOf (ms_willFall M b) a := mcFF M 10 15 a b (by decide)
theorem mc_willFall_buys (M : MT) (a : Int32) (b : Int32) : ms_willFall (ms_buys M a) b = ms_buys (ms_willFall M b) a := mcFF M 10 16 a b (by decide)
theorem mc_willFall_part (M : MT) (a : Int32) (b : Int32) : ms_willFall (ms_part M a) b = ms_part (ms_willFall M b) a := mcFF M 10 17 a b (by decide)
theorem mc_willFall_forced (M : MT) (a : Int32) (b : Int32) : ms_willFall (ms_forced M a) b = ms_forced (ms_willFall M b) a := mcFF M 10 18 a b (by decide)
theorem mc_willFall_left (M : MT) (a : Nat → Int32) (b : Int32) : ms_willFall (ms_left M a) b = ms_left (ms_willFall M b) a := mcFA M 10 7 a b
theorem mc_willFall_prices (M : MT) (a : Nat → Int32) (b : Int32) : ms_willFall (ms_prices M a) b = ms_prices (ms_willFall M b) a := mcFA M 10 8 a b
theorem mc_willFall_musts (M : MT) (a : Nat → Int32) (b : Int32) : ms_willFall (ms_musts M a) b = ms_musts (ms_willFall M b) a := mcFA M 10 9 a b
theorem mc_willFall_fell (M : MT) (a : Nat → Int32) (b : Int32) : ms_willFall (ms_fell M a) b = ms_fell (ms_willFall M b) a := mcFA M 10 10 a b
theorem mc_willFall_leastLost (M : MT) (a : Int32) (b : Int32) : ms_willFall (ms_leastLost M a) b = ms_leastLost (ms_willFall M b) a := mcFF M 10 19 a b (by decide)
theorem mc_willFall_gifts (M : MT) (a : Nat → Int32) (b : Int32) : ms_willFall (ms_gifts M a) b = ms_gifts (ms_willFall M b) a := mcFA M 10 11 a b
theorem mc_willFall_bestGifts (M : MT) (a : Nat → Int32) (b : Int32) : ms_willFall (ms_bestGifts M a) b = ms_bestGifts (ms_willFall M b) a := mcFA M 10 12 a b
theorem mc_willFall_spelt (M : MT) (a : Nat → Int32) (b : Int32) : ms_willFall (ms_spelt M a) b = ms_spelt (ms_willFall M b) a := mcFA M 10 13 a b
theorem mc_willFall_speltMany (M : MT) (a : Int32) (b : Int32) : ms_willFall (ms_speltMany M a) b = ms_speltMany (ms_willFall M b) a := mcFF M 10 20 a b (by decide)
theorem mc_rounds_coins (M : MT) (a : Nat → Int32) (b : Int32) : ms_rounds (ms_coins M a) b = ms_coins (ms_rounds M b) a := mcFA M 11 6 a b
theorem mc_rounds_extraOf (M : MT) (a : Int32) (b : Int32) : ms_rounds (ms_extraOf M a) b = ms_extraOf (ms_rounds M b) a := mcFF M 11 12 a b (by decide)
theorem mc_rounds_extraCap (M : MT) (a : Int32) (b : Int32) : ms_rounds (ms_extraCap M a) b = ms_extraCap (ms_rounds M b) a := mcFF M 11 13 a b (by decide)
theorem mc_rounds_extraShock (M : MT) (a : Int32) (b : Int32) : ms_rounds (ms_extraShock M a) b = ms_extraShock (ms_rounds M b) a := mcFF M 11 14 a b (by decide)
theorem mc_rounds_buyerOf (M : MT) (a : Int32) (b : Int32) : ms_rounds (ms_buyerOf M a) b = ms_buyerOf (ms_rounds M b) a := mcFF M 11 15 a b (by decide)
theorem mc_rounds_buys (M : MT) (a : Int32) (b : Int32) : ms_rounds (ms_buys M a) b = ms_buys (ms_rounds M b) a := mcFF M 11 16 a b (by decide)
theorem mc_rounds_part (M : MT) (a : Int32) (b : Int32) : ms_rounds (ms_part M a) b = ms_part (ms_rounds M b) a := mcFF M 11 17 a b (by decide)
theorem mc_rounds_forced (M : MT) (a : Int32) (b : Int32) : ms_rounds (ms_forced M a) b = ms_forced (ms_rounds M b) a := mcFF M 11 18 a b (by decide)
theorem mc_rounds_left (M : MT) (a : Nat → Int32) (b : Int32) : ms_rounds (ms_left M a) b = ms_left (ms_rounds M b) a := mcFA M 11 7 a b
theorem mc_rounds_prices (M : MT) (a : Nat → Int32) (b : Int32) : ms_rounds (ms_prices M a) b = ms_prices (ms_rounds M b) a := mcFA M 11 8 a b
theorem mc_rounds_musts (M : MT) (a : Nat → Int32) (b : Int32) : ms_rounds (ms_musts M a) b = ms_musts (ms_rounds M b) a := mcFA M 11 9 a b
theorem mc_rounds_fell (M : MT) (a : Nat → Int32) (b : Int32) : ms_rounds (ms_fell M a) b = ms_fell (ms_rounds M b) a := mcFA M 11 10 a b
theorem mc_rounds_leastLost (M : MT) (a : Int32) (b : Int32) : ms_rounds (ms_leastLost M a) b = ms_leastLost (ms_rounds M b) a := mcFF M 11 19 a b (by decide)
theorem mc_rounds_gifts (M : MT) (a : Nat → Int32) (b : Int32) : ms_rounds (ms_gifts M a) b = ms_gifts (ms_rounds M b) a := mcFA M 11 11 a b
theorem mc_rounds_bestGifts (M : MT) (a : Nat → Int32) (b : Int32) : ms_rounds (ms_bestGifts M a) b = ms_bestGifts (ms_rounds M b) a := mcFA M 11 12 a b
theorem mc_rounds_spelt (M : MT) (a : Nat → Int32) (b : Int32) : ms_rounds (ms_spelt M a) b = ms_spelt (ms_rounds M b) a := mcFA M 11 13 a b
theorem mc_rounds_speltMany (M : MT) (a : Int32) (b : Int32) : ms_rounds (ms_speltMany M a) b = ms_speltMany (ms_rounds M b) a := mcFF M 11 20 a b (by decide)
theorem mc_coins_extraOf (M : MT) (a : Int32) (b : Nat → Int32) : ms_coins (ms_extraOf M a) b = ms_extraOf (ms_coins M b) a := mcAF M 6 12 a b
theorem mc_coins_extraCap (M : MT) (a : Int32) (b : Nat → Int32) : ms_coins (ms_extraCap M a) b = ms_extraCap (ms_coins M b) a := mcAF M 6 13 a b
theorem mc_coins_extraShock (M : MT) (a : Int32) (b : Nat → Int32) : ms_coins (ms_extraShock M a) b = ms_extraShock (ms_coins M b) a := mcAF M 6 14 a b
theorem mc_coins_buyerOf (M : MT) (a : Int32) (b : Nat → Int32) : ms_coins (ms_buyerOf M a) b = ms_buyerOf (ms_coins M b) a := mcAF M 6 15 a b
theorem mc_coins_buys (M : MT) (a : Int32) (b : Nat → Int32) : ms_coins (ms_buys M a) b = ms_buys (ms_coins M b) a := mcAF M 6 16 a b
theorem mc_coins_part (M : MT) (a : Int32) (b : Nat → Int32) : ms_coins (ms_part M a) b = ms_part (ms_coins M b) a := mcAF M 6 17 a b
theorem mc_coins_forced (M : MT) (a : Int32) (b : Nat → Int32) : ms_coins (ms_forced M a) b = ms_forced (ms_coins M b) a := mcAF M 6 18 a b
theorem mc_coins_left (M : MT) (a : Nat → Int32) (b : Nat → Int32) : ms_coins (ms_left M a) b = ms_left (ms_coins M b) a := mcAA M 6 7 a b (by decide)
theorem mc_coins_prices (M : MT) (a : Nat → Int32) (b : Nat → Int32) : ms_coins (ms_prices M a) b = ms_prices (ms_coins M b) a := mcAA M 6 8 a b (by decide)
theorem mc_coins_musts (M : MT) (a : Nat → Int32) (b : Nat → Int32) : ms_coins (ms_musts M a) b = ms_musts (ms_coins M b) a := mcAA M 6 9 a b (by decide)
theorem mc_coins_fell (M : MT) (a : Nat → Int32) (b : Nat → Int32) : ms_coins (ms_fell M a) b = ms_fell (ms_coins M b) a := mcAA M 6 10 a b (by decide)
theorem mc_coins_leastLost (M : MT) (a : Int32) (b : Nat → Int32) : ms_coins (ms_leastLost M a) b = ms_leastLost (ms_coins M b) a := mcAF M 6 19 a b
theorem mc_coins_gifts (M : MT) (a : Nat → Int32) (b : Nat → Int32) : ms_coins (ms_gifts M a) b = ms_gifts (ms_coins M b) a := mcAA M 6 11 a b (by decide)
theorem mc_coins_bestGifts (M : MT) (a : Nat → Int32) (b : Nat → Int32) : ms_coins (ms_bestGifts M a) b = ms_bestGifts (ms_coins M b) a := mcAA M 6 12 a b (by decide)
theorem mc_coins_spelt (M : MT) (a : Nat → Int32) (b : Nat → Int32) : ms_coins (ms_spelt M a) b = ms_spelt (ms_coins M b) a := mcAA M 6 13 a b (by decide)
theorem mc_coins_speltMany (M : MT) (a : Int32) (b : Nat → Int32) : ms_coins (ms_speltMany M a) b = ms_speltMany (ms_coins M b) a := mcAF M 6 20 a b
theorem mc_extraOf_extraCap (M : MT) (a : Int32) (b : Int32) : ms_extraOf (ms_extraCap M a) b = ms_extraCap (ms_extraOf M b) a := mcFF M 12 13 a b (by decide)
theorem mc_extraOf_extraShock (M : MT) (a : Int32) (b : Int32) : ms_extraOf (ms_extraShock M a) b = ms_extraShock (ms_extraOf M b) a := mcFF M 12 14 a b (by decide)
theorem mc_extraOf_buyerOf (M : MT) (a : Int32) (b : Int32) : ms_extraOf (ms_buyerOf M a) b = ms_buyerOf (ms_extraOf M b) a := mcFF M 12 15 a b (by decide)
theorem mc_extraOf_buys (M : MT) (a : Int32) (b : Int32) : ms_extraOf (ms_buys M a) b = ms_buys (ms_extraOf M b) a := mcFF M 12 16 a b (by decide)
theorem mc_extraOf_part (M : MT) (a : Int32) (b : Int32) : ms_extraOf (ms_part M a) b = ms_part (ms_extraOf M b) a := mcFF M 12 17 a b (by decide)
theorem mc_extraOf_forced (M : MT) (a : Int32) (b : Int32) : ms_extraOf (ms_forced M a) b = ms_forced (ms_extraOf M b) a := mcFF M 12 18 a b (by decide)
theorem mc_extraOf_left (M : MT) (a : Nat → Int32) (b : Int32) : ms_extraOf (ms_left M a) b = ms_left (ms_extraOf M b) a := mcFA M 12 7 a b
theorem mc_extraOf_prices (M : MT) (a : Nat → Int32) (b : Int32) : ms_extraOf (ms_prices M a) b = ms_prices (ms_extraOf M b) a := mcFA M 12 8 a b
theorem mc_extraOf_musts (M : MT) (a : Nat → Int32) (b : Int32) : ms_extraOf (ms_musts M a) b = ms_musts (ms_extraOf M b) a := mcFA M 12 9 a b
theorem mc_extraOf_fell (M : MT) (a : Nat → Int32) (b : Int32) : ms_extraOf (ms_fell M a) b = ms_fell (ms_extraOf M b) a := mcFA M 12 10 a b
theorem mc_extraOf_leastLost (M : MT) (a : Int32) (b : Int32) : ms_extraOf (ms_leastLost M a) b = ms_leastLost (ms_extraOf M b) a := mcFF M 12 19 a b (by decide)
theorem mc_extraOf_gifts (M : MT) (a : Nat → Int32) (b : Int32) : ms_extraOf (ms_gifts M a) b = ms_gifts (ms_extraOf M b) a := mcFA M 12 11 a b
theorem mc_extraOf_bestGifts (M : MT) (a : Nat → Int32) (b : Int32) : ms_extraOf (ms_bestGifts M a) b = ms_bestGifts (ms_extraOf M b) a := mcFA M 12 12 a b
theorem mc_extraOf_spelt (M : MT) (a : Nat → Int32) (b : Int32) : ms_extraOf (ms_spelt M a) b = ms_spelt (ms_extraOf M b) a := mcFA M 12 13 a b
theorem mc_extraOf_speltMany (M : MT) (a : Int32) (b : Int32) : ms_extraOf (ms_speltMany M a) b = ms_speltMany (ms_extraOf M b) a := mcFF M 12 20 a b (by decide)
theorem mc_extraCap_extraShock (M : MT) (a : Int32) (b : Int32) : ms_extraCap (ms_extraShock M a) b = ms_extraShock (ms_extraCap M b) a := mcFF M 13 14 a b (by decide)
theorem mc_extraCap_buyerOf (M : MT) (a : Int32) (b : Int32) : ms_extraCap (ms_buyerOf M a) b = ms_buyerOf (ms_extraCap M b) a := mcFF M 13 15 a b (by decide)
theorem mc_extraCap_buys (M : MT) (a : Int32) (b : Int32) : ms_extraCap (ms_buys M a) b = ms_buys (ms_extraCap M b) a := mcFF M 13 16 a b (by decide)
theorem mc_extraCap_part (M : MT) (a : Int32) (b : Int32) : ms_extraCap (ms_part M a) b = ms_part (ms_extraCap M b) a := mcFF M 13 17 a b (by decide)
theorem mc_extraCap_forced (M : MT) (a : Int32) (b : Int32) : ms_extraCap (ms_forced M a) b = ms_forced (ms_extraCap M b) a := mcFF M 13 18 a b (by decide)
theorem mc_extraCap_left (M : MT) (a : Nat → Int32) (b : Int32) : ms_extraCap (ms_left M a) b = ms_left (ms_extraCap M b) a := mcFA M 13 7 a b
theorem mc_extraCap_prices (M : MT) (a : Nat → Int32) (b : Int32) : ms_extraCap (ms_prices M a) b = ms_prices (ms_extraCap M b) a := mcFA M 13 8 a b
theorem mc_extraCap_musts (M : MT) (a : Nat → Int32) (b : Int32) : ms_extraCap (ms_musts M a) b = ms_musts (ms_extraCap M b) a := mcFA M 13 9 a b
theorem mc_extraCap_fell (M : MT) (a : Nat → Int32) (b : Int32) : ms_extraCap (ms_fell M a) b = ms_fell (ms_extraCap M b) a := mcFA M 13 10 a b
theorem mc_extraCap_leastLost (M : MT) (a : Int32) (b : Int32) : ms_extraCap (ms_leastLost M a) b = ms_leastLost (ms_extraCap M b) a := mcFF M 13 19 a b (by decide)
theorem mc_extraCap_gifts (M : MT) (a : Nat → Int32) (b : Int32) : ms_extraCap (ms_gifts M a) b = ms_gifts (ms_extraCap M b) a := mcFA M 13 11 a b
theorem mc_extraCap_bestGifts (M : MT) (a : Nat → Int32) (b : Int32) : ms_extraCap (ms_bestGifts M a) b = ms_bestGifts (ms_extraCap M b) a := mcFA M 13 12 a b
theorem mc_extraCap_spelt (M : MT) (a : Nat → Int32) (b : Int32) : ms_extraCap (ms_spelt M a) b = ms_spelt (ms_extraCap M b) a := mcFA M 13 13 a b
theorem mc_extraCap_speltMany (M : MT) (a : Int32) (b : Int32) : ms_extraCap (ms_speltMany M a) b = ms_speltMany (ms_extraCap M b) a := mcFF M 13 20 a b (by decide)
theorem mc_extraShock_buyerOf (M : MT) (a : Int32) (b : Int32) : ms_extraShock (ms_buyerOf M a) b = ms_buyerOf (ms_extraShock M b) a := mcFF M 14 15 a b (by decide)
theorem mc_extraShock_buys (M : MT) (a : Int32) (b : Int32) : ms_extraShock (ms_buys M a) b = ms_buys (ms_extraShock M b) a := mcFF M 14 16 a b (by decide)
theorem mc_extraShock_part (M : MT) (a : Int32) (b : Int32) : ms_extraShock (ms_part M a) b = ms_part (ms_extraShock M b) a := mcFF M 14 17 a b (by decide)
theorem mc_extraShock_forced (M : MT) (a : Int32) (b : Int32) : ms_extraShock (ms_forced M a) b = ms_forced (ms_extraShock M b) a := mcFF M 14 18 a b (by decide)
theorem mc_extraShock_left (M : MT) (a : Nat → Int32) (b : Int32) : ms_extraShock (ms_left M a) b = ms_left (ms_extraShock M b) a := mcFA M 14 7 a b
theorem mc_extraShock_prices (M : MT) (a : Nat → Int32) (b : Int32) : ms_extraShock (ms_prices M a) b = ms_prices (ms_extraShock M b) a := mcFA M 14 8 a b
theorem mc_extraShock_musts (M : MT) (a : Nat → Int32) (b : Int32) : ms_extraShock (ms_musts M a) b = ms_musts (ms_extraShock M b) a := mcFA M 14 9 a b
theorem mc_extraShock_fell (M : MT) (a : Nat → Int32) (b : Int32) : ms_extraShock (ms_fell M a) b = ms_fell (ms_extraShock M b) a := mcFA M 14 10 a b
theorem mc_extraShock_leastLost (M : MT) (a : Int32) (b : Int32) : ms_extraShock (ms_leastLost M a) b = ms_leastLost (ms_extraShock M b) a := mcFF M 14 19 a b (by decide)
theorem mc_extraShock_gifts (M : MT) (a : Nat → Int32) (b : Int32) : ms_extraShock (ms_gifts M a) b = ms_gifts (ms_extraShock M b) a := mcFA M 14 11 a b
theorem mc_extraShock_bestGifts (M : MT) (a : Nat → Int32) (b : Int32) : ms_extraShock (ms_bestGifts M a) b = ms_bestGifts (ms_extraShock M b) a := mcFA M 14 12 a b
theorem mc_extraShock_spelt (M : MT) (a : Nat → Int32) (b : Int32) : ms_extraShock (ms_spelt M a) b = ms_spelt (ms_extraShock M b) a := mcFA M 14 13 a b
theorem mc_extraShock_speltMany (M : MT) (a : Int32) (b : Int32) : ms_extraShock (ms_speltMany M a) b = ms_speltMany (ms_extraShock M b) a := mcFF M 14 20 a b (by decide)
theorem mc_buyerOf_buys (M : MT) (a : Int32) (b : Int32) : ms_buyerOf (ms_buys M a) b = ms_buys (ms_buyerOf M b) a := mcFF M 15 16 a b (by decide)
theorem mc_buyerOf_part (M : MT) (a : Int32) (b : Int32) : ms_buyerOf (ms_part M a) b = ms_part (ms_buyerOf M b) a := mcFF M 15 17 a b (by decide)
theorem mc_buyerOf_forced (M : MT) (a : Int32) (b : Int32) : ms_buyerOf (ms_forced M a) b = ms_forced (ms_buyerOf M b) a := mcFF M 15 18 a b (by decide)
theorem mc_buyerOf_left (M : MT) (a : Nat → Int32) (b : Int32) : ms_buyerOf (ms_left M a) b = ms_left (ms_buyerOf M b) a := mcFA M 15 7 a b
theorem mc_buyerOf_prices (M : MT) (a : Nat → Int32) (b : Int32) : ms_buyerOf (ms_prices M a) b = ms_prices (ms_buyerOf M b) a := mcFA M 15 8 a b
theorem mc_buyerOf_musts (M : MT) (a : Nat → Int32) (b : Int32) : ms_buyerOf (ms_musts M a) b = ms_musts (ms_buyerOf M b) a := mcFA M 15 9 a b
theorem mc_buyerOf_fell (M : MT) (a : Nat → Int32) (b : Int32) : ms_buyerOf (ms_fell M a) b = ms_fell (ms_buyerOf M b) a := mcFA M 15 10 a b
theorem mc_buyerOf_leastLost (M : MT) (a : Int32) (b : Int32) : ms_buyerOf (ms_leastLost M a) b = ms_leastLost (ms_buyerOf M b) a := mcFF M 15 19 a b (by decide)
theorem mc_buyerOf_gifts (M : MT) (a : Nat → Int32) (b : Int32) : ms_buyerOf (ms_gifts M a) b = ms_gifts (ms_buyerOf M b) a := mcFA M 15 11 a b
theorem mc_buyerOf_bestGifts (M : MT) (a : Nat → Int32) (b : Int32) : ms_buyerOf (ms_bestGifts M a) b = ms_bestGifts (ms_buyerOf M b) a := mcFA M 15 12 a b
theorem mc_buyerOf_spelt (M : MT) (a : Nat → Int32) (b : Int32) : ms_buyerOf (ms_spelt M a) b = ms_spelt (ms_buyerOf M b) a := mcFA M 15 13 a b
theorem mc_buyerOf_speltMany (M : MT) (a : Int32) (b : Int32) : ms_buyerOf (ms_speltMany M a) b = ms_speltMany (ms_buyerOf M b) a := mcFF M 15 20 a b (by decide)
theorem mc_buys_part (M : MT) (a : Int32) (b : Int32) : ms_buys (ms_part M a) b = ms_part (ms_buys M b) a := mcFF M 16 17 a b (by decide)
theorem mc_buys_forced (M : MT) (a : Int32) (b : Int32) : ms_buys (ms_forced M a) b = ms_forced (ms_buys M b) a := mcFF M 16 18 a b (by decide)
theorem mc_buys_left (M : MT) (a : Nat → Int32) (b : Int32) : ms_buys (ms_left M a) b = ms_left (ms_buys M b) a := mcFA M 16 7 a b
theorem mc_buys_prices (M : MT) (a : Nat → Int32) (b : Int32) : ms_buys (ms_prices M a) b = ms_prices (ms_buys M b) a := mcFA M 16 8 a b
theorem mc_buys_musts (M : MT) (a : Nat → Int32) (b : Int32) : ms_buys (ms_musts M a) b = ms_musts (ms_buys M b) a := mcFA M 16 9 a b
theorem mc_buys_fell (M : MT) (a : Nat → Int32) (b : Int32) : ms_buys (ms_fell M a) b = ms_fell (ms_buys M b) a := mcFA M 16 10 a b
theorem mc_buys_leastLost (M : MT) (a : Int32) (b : Int32) : ms_buys (ms_leastLost M a) b = ms_leastLost (ms_buys M b) a := mcFF M 16 19 a b (by decide)
theorem mc_buys_gifts (M : MT) (a : Nat → Int32) (b : Int32) : ms_buys (ms_gifts M a) b = ms_gifts (ms_buys M b) a := mcFA M 16 11 a b
theorem mc_buys_bestGifts (M : MT) (a : Nat → Int32) (b : Int32) : ms_buys (ms_bestGifts M a) b = ms_bestGifts (ms_buys M b) a := mcFA M 16 12 a b
theorem mc_buys_spelt (M : MT) (a : Nat → Int32) (b : Int32) : ms_buys (ms_spelt M a) b = ms_spelt (ms_buys M b) a := mcFA M 16 13 a b
theorem mc_buys_speltMany (M : MT) (a : Int32) (b : Int32) : ms_buys (ms_speltMany M a) b = ms_speltMany (ms_buys M b) a := mcFF M 16 20 a b (by decide)
theorem mc_part_forced (M : MT) (a : Int32) (b : Int32) : ms_part (ms_forced M a) b = ms_forced (ms_part M b) a := mcFF M 17 18 a b (by decide)
theorem mc_part_left (M : MT) (a : Nat → Int32) (b : Int32) : ms_part (ms_left M a) b = ms_left (ms_part M b) a := mcFA M 17 7 a b
theorem mc_part_prices (M : MT) (a : Nat → Int32) (b : Int32) : ms_part (ms_prices M a) b = ms_prices (ms_part M b) a := mcFA M 17 8 a b
theorem mc_part_musts (M : MT) (a : Nat → Int32) (b : Int32) : ms_part (ms_musts M a) b = ms_musts (ms_part M b) a := mcFA M 17 9 a b
theorem mc_part_fell (M : MT) (a : Nat → Int32) (b : Int32) : ms_part (ms_fell M a) b = ms_fell (ms_part M b) a := mcFA M 17 10 a b
theorem mc_part_leastLost (M : MT) (a : Int32) (b : Int32) : ms_part (ms_leastLost M a) b = ms_leastLost (ms_part M b) a := mcFF M 17 19 a b (by decide)
theorem mc_part_gifts (M : MT) (a : Nat → Int32) (b : Int32) : ms_part (ms_gifts M a) b = ms_gifts (ms_part M b) a := mcFA M 17 11 a b
theorem mc_part_bestGifts (M : MT) (a : Nat → Int32) (b : Int32) : ms_part (ms_bestGifts M a) b = ms_bestGifts (ms_part M b) a := mcFA M 17 12 a b
theorem mc_part_spelt (M : MT) (a : Nat → Int32) (b : Int32) : ms_part (ms_spelt M a) b = ms_spelt (ms_part M b) a := mcFA M 17 13 a b
theorem mc_part_speltMany (M : MT) (a : Int32) (b : Int32) : ms_part (ms_speltMany M a) b = ms_speltMany (ms_part M b) a := mcFF M 17 20 a b (by decide)
theorem mc_forced_left (M : MT) (a : Nat → Int32) (b : Int32) : ms_forced (ms_left M a) b = ms_left (ms_forced M b) a := mcFA M 18 7 a b
theorem mc_forced_prices (M : MT) (a : Nat → Int32) (b : Int32) : ms_forced (ms_prices M a) b = ms_prices (ms_forced M b) a := mcFA M 18 8 a b
theorem mc_forced_musts (M : MT) (a : Nat → Int32) (b : Int32) : ms_forced (ms_musts M a) b = ms_musts (ms_forced M b) a := mcFA M 18 9 a b
theorem mc_forced_fell (M : MT) (a : Nat → Int32) (b : Int32) : ms_forced (ms_fell M a) b = ms_fell (ms_forced M b) a := mcFA M 18 10 a b
theorem mc_forced_leastLost (M : MT) (a : Int32) (b : Int32) : ms_forced (ms_leastLost M a) b = ms_leastLost (ms_forced M b) a := mcFF M 18 19 a b (by decide)
theorem mc_forced_gifts (M : MT) (a : Nat → Int32) (b : Int32) : ms_forced (ms_gifts M a) b = ms_gifts (ms_forced M b) a := mcFA M 18 11 a b
theorem mc_forced_bestGifts (M : MT) (a : Nat → Int32) (b : Int32) : ms_forced (ms_bestGifts M a) b = ms_bestGifts (ms_forced M b) a := mcFA M 18 12 a b
theorem mc_forced_spelt (M : MT) (a : Nat → Int32) (b : Int32) : ms_forced (ms_spelt M a) b = ms_spelt (ms_forced M b) a := mcFA M 18 13 a b
theorem mc_forced_speltMany (M : MT) (a : Int32) (b : Int32) : ms_forced (ms_speltMany M a) b = ms_speltMany (ms_forced M b) a := mcFF M 18 20 a b (by decide)
theorem mc_left_prices (M : MT) (a : Nat → Int32) (b : Nat → Int32) : ms_left (ms_prices M a) b = ms_prices (ms_left M b) a := mcAA M 7 8 a b (by decide)
theorem mc_left_musts (M : MT) (a : Nat → Int32) (b : Nat → Int32) : ms_left (ms_musts M a) b = ms_musts (ms_left M b) a := mcAA M 7 9 a b (by decide)
theorem mc_left_fell (M : MT) (a : Nat → Int32) (b : Nat → Int32) : ms_left (ms_fell M a) b = ms_fell (ms_left M b) a := mcAA M 7 10 a b (by decide)
theorem mc_left_leastLost (M : MT) (a : Int32) (b : Nat → Int32) : ms_left (ms_leastLost M a) b = ms_leastLost (ms_left M b) a := mcAF M 7 19 a b
theorem mc_left_gifts (M : MT) (a : Nat → Int32) (b : Nat → Int32) : ms_left (ms_gifts M a) b = ms_gifts (ms_left M b) a := mcAA M 7 11 a b (by decide)
theorem mc_left_bestGifts (M : MT) (a : Nat → Int32) (b : Nat → Int32) : ms_left (ms_bestGifts M a) b = ms_bestGifts (ms_left M b) a := mcAA M 7 12 a b (by decide)
theorem mc_left_spelt (M : MT) (a : Nat → Int32) (b : Nat → Int32) : ms_left (ms_spelt M a) b = ms_spelt (ms_left M b) a := mcAA M 7 13 a b (by decide)
theorem mc_left_speltMany (M : MT) (a : Int32) (b : Nat → Int32) : ms_left (ms_speltMany M a) b = ms_speltMany (ms_left M b) a := mcAF M 7 20 a b
theorem mc_prices_musts (M : MT) (a : Nat → Int32) (b : Nat → Int32) : ms_prices (ms_musts M a) b = ms_musts (ms_prices M b) a := mcAA M 8 9 a b (by decide)
theorem mc_prices_fell (M : MT) (a : Nat → Int32) (b : Nat → Int32) : ms_prices (ms_fell M a) b = ms_fell (ms_prices M b) a := mcAA M 8 10 a b (by decide)
theorem mc_prices_leastLost (M : MT) (a : Int32) (b : Nat → Int32) : ms_prices (ms_leastLost M a) b = ms_leastLost (ms_prices M b) a := mcAF M 8 19 a b
theorem mc_prices_gifts (M : MT) (a : Nat → Int32) (b : Nat → Int32) : ms_prices (ms_gifts M a) b = ms_gifts (ms_prices M b) a := mcAA M 8 11 a b (by decide)
theorem mc_prices_bestGifts (M : MT) (a : Nat → Int32) (b : Nat → Int32) : ms_prices (ms_bestGifts M a) b = ms_bestGifts (ms_prices M b) a := mcAA M 8 12 a b (by decide)
theorem mc_prices_spelt (M : MT) (a : Nat → Int32) (b : Nat → Int32) : ms_prices (ms_spelt M a) b = ms_spelt (ms_prices M b) a := mcAA M 8 13 a b (by decide)
theorem mc_prices_speltMany (M : MT) (a : Int32) (b : Nat → Int32) : ms_prices (ms_speltMany M a) b = ms_speltMany (ms_prices M b) a := mcAF M 8 20 a b
theorem mc_musts_fell (M : MT) (a : Nat → Int32) (b : Nat → Int32) : ms_musts (ms_fell M a) b = ms_fell (ms_musts M b) a := mcAA M 9 10 a b (by decide)
theorem mc_musts_leastLost (M : MT) (a : Int32) (b : Nat → Int32) : ms_musts (ms_leastLost M a) b = ms_leastLost (ms_musts M b) a := mcAF M 9 19 a b
theorem mc_musts_gifts (M : MT) (a : Nat → Int32) (b : Nat → Int32) : ms_musts (ms_gifts M a) b = ms_gifts (ms_musts M b) a := mcAA M 9 11 a b (by decide)
theorem mc_musts_bestGifts (M : MT) (a : Nat → Int32) (b : Nat → Int32) : ms_musts (ms_bestGifts M a) b = ms_bestGifts (ms_musts M b) a := mcAA M 9 12 a b (by decide)
theorem mc_musts_spelt (M : MT) (a : Nat → Int32) (b : Nat → Int32) : ms_musts (ms_spelt M a) b = ms_spelt (ms_musts M b) a := mcAA M 9 13 a b (by decide)
theorem mc_musts_speltMany (M : MT) (a : Int32) (b : Nat → Int32) : ms_musts (ms_speltMany M a) b = ms_speltMany (ms_musts M b) a := mcAF M 9 20 a b
theorem mc_fell_leastLost (M : MT) (a : Int32) (b : Nat → Int32) : ms_fell (ms_leastLost M a) b = ms_leastLost (ms_fell M b) a := mcAF M 10 19 a b
theorem mc_fell_gifts (M : MT) (a : Nat → Int32) (b : Nat → Int32) : ms_fell (ms_gifts M a) b = ms_gifts (ms_fell M b) a := mcAA M 10 11 a b (by decide)
theorem mc_fell_bestGifts (M : MT) (a : Nat → Int32) (b : Nat → Int32) : ms_fell (ms_bestGifts M a) b = ms_bestGifts (ms_fell M b) a := mcAA M 10 12 a b (by decide)
theorem mc_fell_spelt (M : MT) (a : Nat → Int32) (b : Nat → Int32) : ms_fell (ms_spelt M a) b = ms_spelt (ms_fell M b) a := mcAA M 10 13 a b (by decide)
theorem mc_fell_speltMany (M : MT) (a : Int32) (b : Nat → Int32) : ms_fell (ms_speltMany M a) b = ms_speltMany (ms_fell M b) a := mcAF M 10 20 a b
theorem mc_leastLost_gifts (M : MT) (a : Nat → Int32) (b : Int32) : ms_leastLost (ms_gifts M a) b = ms_gifts (ms_leastLost M b) a := mcFA M 19 11 a b
theorem mc_leastLost_bestGifts (M : MT) (a : Nat → Int32) (b : Int32) : ms_leastLost (ms_bestGifts M a) b = ms_bestGifts (ms_leastLost M b) a := mcFA M 19 12 a b
theorem mc_leastLost_spelt (M : MT) (a : Nat → Int32) (b : Int32) : ms_leastLost (ms_spelt M a) b = ms_spelt (ms_leastLost M b) a := mcFA M 19 13 a b
theorem mc_leastLost_speltMany (M : MT) (a : Int32) (b : Int32) : ms_leastLost (ms_speltMany M a) b = ms_speltMany (ms_leastLost M b) a := mcFF M 19 20 a b (by decide)
theorem mc_gifts_bestGifts (M : MT) (a : Nat → Int32) (b : Nat → Int32) : ms_gifts (ms_bestGifts M a) b = ms_bestGifts (ms_gifts M b) a := mcAA M 11 12 a b (by decide)
theorem mc_gifts_spelt (M : MT) (a : Nat → Int32) (b : Nat → Int32) : ms_gifts (ms_spelt M a) b = ms_spelt (ms_gifts M b) a := mcAA M 11 13 a b (by decide)
theorem mc_gifts_speltMany (M : MT) (a : Int32) (b : Nat → Int32) : ms_gifts (ms_speltMany M a) b = ms_speltMany (ms_gifts M b) a := mcAF M 11 20 a b
theorem mc_bestGifts_spelt (M : MT) (a : Nat → Int32) (b : Nat → Int32) : ms_bestGifts (ms_spelt M a) b = ms_spelt (ms_bestGifts M b) a := mcAA M 12 13 a b (by decide)
theorem mc_bestGifts_speltMany (M : MT) (a : Int32) (b : Nat → Int32) : ms_bestGifts (ms_speltMany M a) b = ms_speltMany (ms_bestGifts M b) a := mcAF M 12 20 a b
theorem mc_spelt_speltMany (M : MT) (a : Int32) (b : Nat → Int32) : ms_spelt (ms_speltMany M a) b = ms_speltMany (ms_spelt M b) a := mcAF M 13 20 a b
def zWf (N : Nat → Int32) (A H : Nat) (K : Nat → Nat) : Prop := N 0 = nI A ∧ A ≤ 4 ∧ N 1 = nI H ∧ H ≤ 6 ∧ (∀ s, s < 3 → N (100 + 13 * s) = nI (K s) ∧ K s ≤ 4) ∧ ∀ h, h < H → ¬ N (10 + 5 * h + 3) = 0
theorem zWf_eq {N N2 : Nat → Int32} {A H : Nat} {K : Nat → Nat} (e : N2 = N) (h : zWf N A H K) : zWf N2 A H K := by rw [e]; exact h
section ZModel2
variable {g : Zg} {X : Zx} {own : String} {cc : ByteArray} {nL : Nat} {ret : Option FieldType} {d mc ms : Nat} {u v pc : Nat} {G0 G : zHG} {o : Nat} {M : MT} {L : List (Nat × Value)} {st : List Value}
theorem m_get_thrown (hX : zOk g X own cc nL ret d mc ms) (hM : zMs g G0 G o M) {idx : Nat} (hF : zFg own idx 4 0) (hdg : decode cc pc = .ok (.getfield idx, 3)) (p : Nat) (hp : pc + 3 = p) {w : Int32} (hw : mt_thrown M = w) (kk : ZW g X u v G p L (.int w :: st)) : ZW g X u v G pc L (.ref o :: st) :=
  z_getf hX hF hM.1.o hdg p hp (x := .int (mt_thrown M)) rfl (by rw [hw]; exact kk)
theorem m_get_undoMany (hX : zOk g X own cc nL ret d mc ms) (hM : zMs g G0 G o M) {idx : Nat} (hF : zFg own idx 4 4) (hdg : decode cc pc = .ok (.getfield idx, 3)) (p : Nat) (hp : pc + 3 = p) {w : Int32} (hw : mt_undoMany M = w) (kk : ZW g X u v G p L (.int w :: st)) : ZW g X u v G pc L (.ref o :: st) :=
  z_getf hX hF hM.1.o hdg p hp (x := .int (mt_undoMany M)) rfl (by rw [hw]; exact kk)
theorem m_get_taped (hX : zOk g X own cc nL ret d mc ms) (hM : zMs g G0 G o M) {idx : Nat} (hF : zFg own idx 4 6) (hdg : decode cc pc = .ok (.getfield idx, 3)) (p : Nat) (hp : pc + 3 = p) {w : Int32} (hw : mt_taped M = w) (kk : ZW g X u v G p L (.int w :: st)) : ZW g X u v G pc L (.ref o :: st) :=
  z_getf hX hF hM.1.o hdg p hp (x := .int (mt_taped M)) rfl (by rw [hw]; exact kk)
theorem m_get_size (hX : zOk g X own cc nL ret d mc ms) (hM : zMs g G0 G o M) {idx : Nat} (hF : zFg own idx 4 7) (hdg : decode cc pc = .ok (.getfield idx, 3)) (p : Nat) (hp : pc + 3 = p) {w : Int32} (hw : mt_size M = w) (kk : ZW g X u v G p L (.int w :: st)) : ZW g X u v G pc L (.ref o :: st) :=
  z_getf hX hF hM.1.o hdg p hp (x := .int (mt_size M)) rfl (by rw [hw]; exact kk)
theorem m_get_at (hX : zOk g X own cc nL ret d mc ms) (hM : zMs g G0 G o M) {idx : Nat} (hF : zFg own idx 4 8) (hdg : decode cc pc = .ok (.getfield idx, 3)) (p : Nat) (hp : pc + 3 = p) {w : Int32} (hw : mt_at M = w) (kk : ZW g X u v G p L (.int w :: st)) : ZW g X u v G pc L (.ref o :: st) :=
  z_getf hX hF hM.1.o hdg p hp (x := .int (mt_at M)) rfl (by rw [hw]; exact kk)
theorem m_get_token (hX : zOk g X own cc nL ret d mc ms) (hM : zMs g G0 G o M) {idx : Nat} (hF : zFg own idx 4 9) (hdg : decode cc pc = .ok (.getfield idx, 3)) (p : Nat) (hp : pc + 3 = p) {w : Int32} (hw : mt_token M = w) (kk : ZW g X u v G p L (.int w :: st)) : ZW g X u v G pc L (.ref o :: st) :=
  z_getf hX hF hM.1.o hdg p hp (x := .int (mt_token M)) rfl (by rw [hw]; exact kk)
theorem m_get_from (hX : zOk g X own cc nL ret d mc ms) (hM : zMs g G0 G o M) {idx : Nat} (hF : zFg own idx 4 10) (hdg : decode cc pc = .ok (.getfield idx, 3)) (p : Nat) (hp : pc + 3 = p) {w : Int32} (hw : mt_from M = w) (kk : ZW g X u v G p L (.int w :: st)) : ZW g X u v G pc L (.ref o :: st) :=
  z_getf hX hF hM.1.o hdg p hp (x := .int (mt_from M)) rfl (by rw [hw]; exact kk)
theorem m_get_value (hX : zOk g X own cc nL ret d mc ms) (hM : zMs g G0 G o M) {idx : Nat} (hF : zFg own idx 4 11) (hdg : decode cc pc = .ok (.getfield idx, 3)) (p : Nat) (hp : pc + 3 = p) {w : Int32} (hw : mt_value M = w) (kk : ZW g X u v G p L (.int w :: st)) : ZW g X u v G pc L (.ref o :: st) :=
  z_getf hX hF hM.1.o hdg p hp (x := .int (mt_value M)) rfl (by rw [hw]; exact kk)
theorem m_get_fault (hX : zOk g X own cc nL ret d mc ms) (hM : zMs g G0 G o M) {idx : Nat} (hF : zFg own idx 4 12) (hdg : decode cc pc = .ok (.getfield idx, 3)) (p : Nat) (hp : pc + 3 = p) {w : Int32} (hw : mt_fault M = w) (kk : ZW g X u v G p L (.int w :: st)) : ZW g X u v G pc L (.ref o :: st) :=
  z_getf hX hF hM.1.o hdg p hp (x := .int (mt_fault M)) rfl (by rw [hw]; exact kk)
theorem m_get_fallen (hX : zOk g X own cc nL ret d mc ms) (hM : zMs g G0 G o M) {idx : Nat} (hF : zFg own idx 4 15) (hdg : decode cc pc = .ok (.getfield idx, 3)) (p : Nat) (hp : pc + 3 = p) {w : Int32} (hw : mt_fallen M = w) (kk : ZW g X u v G p L (.int w :: st)) : ZW g X u v G pc L (.ref o :: st) :=
  z_getf hX hF hM.1.o hdg p hp (x := .int (mt_fallen M)) rfl (by rw [hw]; exact kk)
theorem m_get_willFall (hX : zOk g X own cc nL ret d mc ms) (hM : zMs g G0 G o M) {idx : Nat} (hF : zFg own idx 4 16) (hdg : decode cc pc = .ok (.getfield idx, 3)) (p : Nat) (hp : pc + 3 = p) {w : Int32} (hw : mt_willFall M = w) (kk : ZW g X u v G p L (.int w :: st)) : ZW g X u v G pc L (.ref o :: st) :=
  z_getf hX hF hM.1.o hdg p hp (x := .int (mt_willFall M)) rfl (by rw [hw]; exact kk)
theorem m_get_rounds (hX : zOk g X own cc nL ret d mc ms) (hM : zMs g G0 G o M) {idx : Nat} (hF : zFg own idx 4 17) (hdg : decode cc pc = .ok (.getfield idx, 3)) (p : Nat) (hp : pc + 3 = p) {w : Int32} (hw : mt_rounds M = w) (kk : ZW g X u v G p L (.int w :: st)) : ZW g X u v G pc L (.ref o :: st) :=
  z_getf hX hF hM.1.o hdg p hp (x := .int (mt_rounds M)) rfl (by rw [hw]; exact kk)
theorem m_get_extraOf (hX : zOk g X own cc nL ret d mc ms) (hM : zMs g G0 G o M) {idx : Nat} (hF : zFg own idx 4 19) (hdg : decode cc pc = .ok (.getfield idx, 3)) (p : Nat) (hp : pc + 3 = p) {w : Int32} (hw : mt_extraOf M = w) (kk : ZW g X u v G p L (.int w :: st)) : ZW g X u v G pc L (.ref o :: st) :=
  z_getf hX hF hM.1.o hdg p hp (x := .int (mt_extraOf M)) rfl (by rw [hw]; exact kk)
theorem m_get_extraCap (hX : zOk g X own cc nL ret d mc ms) (hM : zMs g G0 G o M) {idx : Nat} (hF : zFg own idx 4 20) (hdg : decode cc pc = .ok (.getfield idx, 3)) (p : Nat) (hp : pc + 3 = p) {w : Int32} (hw : mt_extraCap M = w) (kk : ZW g X u v G p L (.int w :: st)) : ZW g X u v G pc L (.ref o :: st) :=
  z_getf hX hF hM.1.o hdg p hp (x := .int (mt_extraCap M)) rfl (by rw [hw]; exact kk)
theorem m_get_extraShock (hX : zOk g X own cc nL ret d mc ms) (hM : zMs g G0 G o M) {idx : Nat} (hF : zFg own idx 4 21) (hdg : decode cc pc = .ok (.getfield idx, 3)) (p : Nat) (hp : pc + 3 = p) {w : Int32} (hw : mt_extraShock M = w) (kk : ZW g X u v G p L (.int w :: st)) : ZW g X u v G pc L (.ref o :: st) :=
  z_getf hX hF hM.1.o hdg p hp (x := .int (mt_extraShock M)) rfl (by rw [hw]; exact kk)
theorem m_get_buyerOf (hX : zOk g X own cc nL ret d mc ms) (hM : zMs g G0 G o M) {idx : Nat} (hF : zFg own idx 4 22) (hdg : decode cc pc = .ok (.getfield idx, 3)) (p : Nat) (hp : pc + 3 = p) {w : Int32} (hw : mt_buyerOf M = w) (kk : ZW g X u v G p L (.int w :: st)) : ZW g X u v G pc L (.ref o :: st) :=
  z_getf hX hF hM.1.o hdg p hp (x := .int (mt_buyerOf M)) rfl (by rw [hw]; exact kk)
theorem m_get_buys (hX : zOk g X own cc nL ret d mc ms) (hM : zMs g G0 G o M) {idx : Nat} (hF : zFg own idx 4 23) (hdg : decode cc pc = .ok (.getfield idx, 3)) (p : Nat) (hp : pc + 3 = p) {w : Int32} (hw : mt_buys M = w) (kk : ZW g X u v G p L (.int w :: st)) : ZW g X u v G pc L (.ref o :: st) :=
  z_getf hX hF hM.1.o hdg p hp (x := .int (mt_buys M)) rfl (by rw [hw]; exact kk)
theorem m_get_part (hX : zOk g X own cc nL ret d mc ms) (hM : zMs g G0 G o M) {idx : Nat} (hF : zFg own idx 4 24) (hdg : decode cc pc = .ok (.getfield idx, 3)) (p : Nat) (hp : pc + 3 = p) {w : Int32} (hw : mt_part M = w) (kk : ZW g X u v G p L (.int w :: st)) : ZW g X u v G pc L (.ref o :: st) :=
  z_getf hX hF hM.1.o hdg p hp (x := .int (mt_part M)) rfl (by rw [hw]; exact kk)
theorem m_get_forced (hX : zOk g X own cc nL ret d mc ms) (hM : zMs g G0 G o M) {idx : Nat} (hF : zFg own idx 4 25) (hdg : decode cc pc = .ok (.getfield idx, 3)) (p : Nat) (hp : pc + 3 = p) {w : Int32} (hw : mt_forced M = w) (kk : ZW g X u v G p L (.int w :: st)) : ZW g X u v G pc L (.ref o :: st) :=
  z_getf hX hF hM.1.o hdg p hp (x := .int (mt_forced M)) rfl (by rw [hw]; exact kk)
theorem m_get_leastLost (hX : zOk g X own cc nL ret d mc ms) (hM : zMs g G0 G o M) {idx : Nat} (hF : zFg own idx 4 30) (hdg : decode cc pc = .ok (.getfield idx, 3)) (p : Nat) (hp : pc + 3 = p) {w : Int32} (hw : mt_leastLost M = w) (kk : ZW g X u v G p L (.int w :: st)) : ZW g X u v G pc L (.ref o :: st) :=
  z_getf hX hF hM.1.o hdg p hp (x := .int (mt_leastLost M)) rfl (by rw [hw]; exact kk)
theorem m_get_speltMany (hX : zOk g X own cc nL ret d mc ms) (hM : zMs g G0 G o M) {idx : Nat} (hF : zFg own idx 4 34) (hdg : decode cc pc = .ok (.getfield idx, 3)) (p : Nat) (hp : pc + 3 = p) {w : Int32} (hw : mt_speltMany M = w) (kk : ZW g X u v G p L (.int w :: st)) : ZW g X u v G pc L (.ref o :: st) :=
  z_getf hX hF hM.1.o hdg p hp (x := .int (mt_speltMany M)) rfl (by rw [hw]; exact kk)
end ZModel2
