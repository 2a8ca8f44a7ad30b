set_option maxRecDepth 100000
theorem x4_it_0 (A H : Nat) (K : Nat → Nat) (M : MT) : x4_it A H K M 0 = M := rfl
theorem it_s_sold (A H : Nat) (K : Nat → Nat) (M : MT) (j : Nat) : mt_sold (x4_it A H K M (j + 1)) = x4_goesOn_sold (mt_now M) (mt_sold (x4_it A H K M j)) (mt_sells (x4_it A H K M j)) (mt_fallen (x4_it A H K M j)) (mt_coins M) (mt_extraOf M) (mt_extraCap M) (mt_extraShock M) (mt_buyerOf M) (mt_buys M) (mt_part M) (mt_forced M) A H K := by
  rw [x4_it_s]
  simp only [gM, mgs_sold, mg_sold_sells, mg_sold_fallen, mg_sold_willFall, it_now, it_coins, it_extraOf, it_extraCap, it_extraShock, it_buyerOf, it_buys, it_part, it_forced]
theorem it_s_sells (A H : Nat) (K : Nat → Nat) (M : MT) (j : Nat) : mt_sells (x4_it A H K M (j + 1)) = x4_goesOn_sells (mt_now M) (mt_sold (x4_it A H K M j)) (mt_sells (x4_it A H K M j)) (mt_fallen (x4_it A H K M j)) (mt_coins M) (mt_extraOf M) (mt_extraCap M) (mt_extraShock M) (mt_buyerOf M) (mt_buys M) (mt_part M) (mt_forced M) A H K := by
  rw [x4_it_s]
  simp only [gM, mgs_sells, mg_sells_sold, mg_sells_fallen, mg_sells_willFall, it_now, it_coins, it_extraOf, it_extraCap, it_extraShock, it_buyerOf, it_buys, it_part, it_forced]
theorem it_s_fallen (A H : Nat) (K : Nat → Nat) (M : MT) (j : Nat) : mt_fallen (x4_it A H K M (j + 1)) = x4_goesOn_fallen (mt_now M) (mt_sold (x4_it A H K M j)) (mt_sells (x4_it A H K M j)) (mt_fallen (x4_it A H K M j)) (mt_coins M) (mt_extraOf M) (mt_extraShock M) (mt_buyerOf M) (mt_buys M) (mt_part M) (mt_forced M) A H K := by
  rw [x4_it_s]
  simp only [gM, mgs_fallen, mg_fallen_sold, mg_fallen_sells, mg_fallen_willFall, it_now, it_coins, it_extraOf, it_extraCap, it_extraShock, it_buyerOf, it_buys, it_part, it_forced]
theorem it_s_willFall (A H : Nat) (K : Nat → Nat) (M : MT) (j : Nat) : mt_willFall (x4_it A H K M (j + 1)) = x4_goesOn_willFall (mt_now M) (mt_sold (x4_it A H K M j)) (mt_sells (x4_it A H K M j)) (mt_fallen (x4_it A H K M j)) (mt_coins M) (mt_extraOf M) (mt_extraShock M) (mt_buyerOf M) (mt_buys M) (mt_part M) (mt_forced M) A H K := by
  rw [x4_it_s]
  simp only [gM, mgs_willFall, mg_willFall_sold, mg_willFall_sells, mg_willFall_fallen, it_now, it_coins, it_extraOf, it_extraCap, it_extraShock, it_buyerOf, it_buys, it_part, it_forced]
theorem gV_it (A H : Nat) (K : Nat → Nat) (M : MT) (j : Nat) : gV A H K (x4_it A H K M j) = x4_goesOn (mt_now M) (mt_sold (x4_it A H K M j)) (mt_sells (x4_it A H K M j)) (mt_fallen (x4_it A H K M j)) (mt_coins M) (mt_extraOf M) (mt_extraCap M) (mt_extraShock M) (mt_buyerOf M) (mt_buys M) (mt_part M) (mt_forced M) A H K := by simp only [gV, it_now, it_coins, it_extraOf, it_extraCap, it_extraShock, it_buyerOf, it_buys, it_part, it_forced]
def x4_go (A H : Nat) (K : Nat → Nat) : Nat → MT → MT
  | 0, M => M
  | k + 1, M => if gV A H K M = 0 then gM A H K M else x4_go A H K k (gM A H K M)
theorem go_thrown (A H : Nat) (K : Nat → Nat) : ∀ (k : Nat) (M : MT), mt_thrown (x4_go A H K k M) = mt_thrown M
  | 0, _ => rfl
  | k + 1, M => by
    unfold x4_go
    split
    · exact gM_thrown A H K M
    · rw [go_thrown A H K k, gM_thrown]
theorem go_now (A H : Nat) (K : Nat → Nat) : ∀ (k : Nat) (M : MT), mt_now (x4_go A H K k M) = mt_now M
  | 0, _ => rfl
  | k + 1, M => by
    unfold x4_go
    split
    · exact gM_now A H K M
    · rw [go_now A H K k, gM_now]
theorem go_aside (A H : Nat) (K : Nat → Nat) : ∀ (k : Nat) (M : MT), mt_aside (x4_go A H K k M) = mt_aside M
  | 0, _ => rfl
  | k + 1, M => by
    unfold x4_go
    split
    · exact gM_aside A H K M
    · rw [go_aside A H K k, gM_aside]
theorem go_undos (A H : Nat) (K : Nat → Nat) : ∀ (k : Nat) (M : MT), mt_undos (x4_go A H K k M) = mt_undos M
  | 0, _ => rfl
  | k + 1, M => by
    unfold x4_go
    split
    · exact gM_undos A H K M
    · rw [go_undos A H K k, gM_undos]
theorem go_undoMany (A H : Nat) (K : Nat → Nat) : ∀ (k : Nat) (M : MT), mt_undoMany (x4_go A H K k M) = mt_undoMany M
  | 0, _ => rfl
  | k + 1, M => by
    unfold x4_go
    split
    · exact gM_undoMany A H K M
    · rw [go_undoMany A H K k, gM_undoMany]
theorem go_tape (A H : Nat) (K : Nat → Nat) : ∀ (k : Nat) (M : MT), mt_tape (x4_go A H K k M) = mt_tape M
  | 0, _ => rfl
  | k + 1, M => by
    unfold x4_go
    split
    · exact gM_tape A H K M
    · rw [go_tape A H K k, gM_tape]
theorem go_taped (A H : Nat) (K : Nat → Nat) : ∀ (k : Nat) (M : MT), mt_taped (x4_go A H K k M) = mt_taped M
  | 0, _ => rfl
  | k + 1, M => by
    unfold x4_go
    split
    · exact gM_taped A H K M
    · rw [go_taped A H K k, gM_taped]
theorem go_size (A H : Nat) (K : Nat → Nat) : ∀ (k : Nat) (M : MT), mt_size (x4_go A H K k M) = mt_size M
  | 0, _ => rfl
  | k + 1, M => by
    unfold x4_go
    split
    · exact gM_size A H K M
    · rw [go_size A H K k, gM_size]
theorem go_at (A H : Nat) (K : Nat → Nat) : ∀ (k : Nat) (M : MT), mt_at (x4_go A H K k M) = mt_at M
  | 0, _ => rfl
  | k + 1, M => by
    unfold x4_go
    split
    · exact gM_at A H K M
    · rw [go_at A H K k, gM_at]
theorem go_token (A H : Nat) (K : Nat → Nat) : ∀ (k : Nat) (M : MT), mt_token (x4_go A H K k M) = mt_token M
  | 0, _ => rfl
  | k + 1, M => by
    unfold x4_go
    split
    · exact gM_token A H K M
    · rw [go_token A H K k, gM_token]
theorem go_from (A H : Nat) (K : Nat → Nat) : ∀ (k : Nat) (M : MT), mt_from (x4_go A H K k M) = mt_from M
  | 0, _ => rfl
  | k + 1, M => by
    unfold x4_go
    split
    · exact gM_from A H K M
    · rw [go_from A H K k, gM_from]
theorem go_value (A H : Nat) (K : Nat → Nat) : ∀ (k : Nat) (M : MT), mt_value (x4_go A H K k M) = mt_value M
  | 0, _ => rfl
  | k + 1, M => by
    unfold x4_go
    split
    · exact gM_value A H K M
    · rw [go_value A H K k, gM_value]
theorem go_fault (A H : Nat) (K : Nat → Nat) : ∀ (k : Nat) (M : MT), mt_fault (x4_go A H K k M) = mt_fault M
  | 0, _ => rfl
  | k + 1, M => by
    unfold x4_go
    split
    · exact gM_fault A H K M
    · rw [go_fault A H K k, gM_fault]
theorem go_rounds (A H : Nat) (K : Nat → Nat) : ∀ (k : Nat) (M : MT), mt_rounds (x4_go A H K k M) = mt_rounds M
  | 0, _ => rfl
  | k + 1, M => by
    unfold x4_go
    split
    · exact gM_rounds A H K M
    · rw [go_rounds A H K k, gM_rounds]
theorem go_coins (A H : Nat) (K : Nat → Nat) : ∀ (k : Nat) (M : MT), mt_coins (x4_go A H K k M) = mt_coins M
  | 0, _ => rfl
  | k + 1, M => by
    unfold x4_go
    split
    · exact gM_coins A H K M
    · rw [go_coins A H K k, gM_coins]
theorem go_extraOf (A H : Nat) (K : Nat → Nat) : ∀ (k : Nat) (M : MT), mt_extraOf (x4_go A H K k M) = mt_extraOf M
  | 0, _ => rfl
  | k + 1, M => by
    unfold x4_go
    split
    · exact gM_extraOf A H K M
    · rw [go_extraOf A H K k, gM_extraOf]
theorem go_extraCap (A H : Nat) (K : Nat → Nat) : ∀ (k : Nat) (M : MT), mt_extraCap (x4_go A H K k M) = mt_extraCap M
  | 0, _ => rfl
  | k + 1, M => by
    unfold x4_go
    split
    · exact gM_extraCap A H K M
    · rw [go_extraCap A H K k, gM_extraCap]
theorem go_extraShock (A H : Nat) (K : Nat → Nat) : ∀ (k : Nat) (M : MT), mt_extraShock (x4_go A H K k M) = mt_extraShock M
  | 0, _ => rfl
  | k + 1, M => by
    unfold x4_go
    split
    · exact gM_extraShock A H K M
    · rw [go_extraShock A H K k, gM_extraShock]
theorem go_buyerOf (A H : Nat) (K : Nat → Nat) : ∀ (k : Nat) (M : MT), mt_buyerOf (x4_go A H K k M) = mt_buyerOf M
  | 0, _ => rfl
  | k + 1, M => by
    unfold x4_go
    split
    · exact gM_buyerOf A H K M
    · rw [go_buyerOf A H K k, gM_buyerOf]
theorem go_buys (A H : Nat) (K : Nat → Nat) : ∀ (k : Nat) (M : MT), mt_buys (x4_go A H K k M) = mt_buys M
  | 0, _ => rfl
  | k + 1, M => by
    unfold x4_go
    split
    · exact gM_buys A H K M
    · rw [go_buys A H K k, gM_buys]
theorem go_part (A H : Nat) (K : Nat → Nat) : ∀ (k : Nat) (M : MT), mt_part (x4_go A H K k M) = mt_part M
  | 0, _ => rfl
  | k + 1, M => by
    unfold x4_go
    split
    · exact gM_part A H K M
    · rw [go_part A H K k, gM_part]
theorem go_forced (A H : Nat) (K : Nat → Nat) : ∀ (k : Nat) (M : MT), mt_forced (x4_go A H K k M) = mt_forced M
  | 0, _ => rfl
  | k + 1, M => by
    unfold x4_go
    split
    · exact gM_forced A H K M
    · rw [go_forced A H K k, gM_forced]
theorem go_left (A H : Nat) (K : Nat → Nat) : ∀ (k : Nat) (M : MT), mt_left (x4_go A H K k M) = mt_left M
  | 0, _ => rfl
  | k + 1, M => by
    unfold x4_go
    split
    · exact gM_left A H K M
    · rw [go_left A H K k, gM_left]
theorem go_prices (A H : Nat) (K : Nat → Nat) : ∀ (k : Nat) (M : MT), mt_prices (x4_go A H K k M) = mt_prices M
  | 0, _ => rfl
  | k + 1, M => by
    unfold x4_go
    split
    · exact gM_prices A H K M
    · rw [go_prices A H K k, gM_prices]
theorem go_musts (A H : Nat) (K : Nat → Nat) : ∀ (k : Nat) (M : MT), mt_musts (x4_go A H K k M) = mt_musts M
  | 0, _ => rfl
  | k + 1, M => by
    unfold x4_go
    split
    · exact gM_musts A H K M
    · rw [go_musts A H K k, gM_musts]
theorem go_fell (A H : Nat) (K : Nat → Nat) : ∀ (k : Nat) (M : MT), mt_fell (x4_go A H K k M) = mt_fell M
  | 0, _ => rfl
  | k + 1, M => by
    unfold x4_go
    split
    · exact gM_fell A H K M
    · rw [go_fell A H K k, gM_fell]
theorem go_leastLost (A H : Nat) (K : Nat → Nat) : ∀ (k : Nat) (M : MT), mt_leastLost (x4_go A H K k M) = mt_leastLost M
  | 0, _ => rfl
  | k + 1, M => by
    unfold x4_go
    split
    · exact gM_leastLost A H K M
    · rw [go_leastLost A H K k, gM_leastLost]
theorem go_gifts (A H : Nat) (K : Nat → Nat) : ∀ (k : Nat) (M : MT), mt_gifts (x4_go A H K k M) = mt_gifts M
  | 0, _ => rfl
  | k + 1, M => by
    unfold x4_go
    split
    · exact gM_gifts A H K M
    · rw [go_gifts A H K k, gM_gifts]
theorem go_bestGifts (A H : Nat) (K : Nat → Nat) : ∀ (k : Nat) (M : MT), mt_bestGifts (x4_go A H K k M) = mt_bestGifts M
  | 0, _ => rfl
  | k + 1, M => by
    unfold x4_go
    split
    · exact gM_bestGifts A H K M
    · rw [go_bestGifts A H K k, gM_bestGifts]
theorem go_spelt (A H : Nat) (K : Nat → Nat) : ∀ (k : Nat) (M : MT), mt_spelt (x4_go A H K k M) = mt_spelt M
  | 0, _ => rfl
  | k + 1, M => by
    unfold x4_go
    split
    · exact gM_spelt A H K M
    · rw [go_spelt A H K k, gM_spelt]
theorem go_speltMany (A H : Nat) (K : Nat → Nat) : ∀ (k : Nat) (M : MT), mt_speltMany (x4_go A H K k M) = mt_speltMany M
  | 0, _ => rfl
  | k + 1, M => by
    unfold x4_go
    split
    · exact gM_speltMany A H K M
    · rw [go_speltMany A H K k, gM_speltMany]
theorem gM_eq (A H : Nat) (K : Nat → Nat) (M : MT) : gM A H K M = ms_willFall (ms_fallen (ms_sells (ms_sold M (mt_sold (gM A H K M))) (mt_sells (gM A H K M))) (mt_fallen (gM A H K M))) (mt_willFall (gM A H K M)) := by simp only [gM, mgs_sold, mgs_sells, mgs_fallen, mgs_willFall, mg_sold_sells, mg_sold_fallen, mg_sold_willFall, mg_sells_sold, mg_sells_fallen, mg_sells_willFall, mg_fallen_sold, mg_fallen_sells, mg_fallen_willFall, mg_willFall_sold, mg_willFall_sells, mg_willFall_fallen]
theorem go_eq (A H : Nat) (K : Nat → Nat) : ∀ (k : Nat) (M : MT), x4_go A H K k M = ms_willFall (ms_fallen (ms_sells (ms_sold M (mt_sold (x4_go A H K k M))) (mt_sells (x4_go A H K k M))) (mt_fallen (x4_go A H K k M))) (mt_willFall (x4_go A H K k M))
  | 0, M => by simp only [x4_go, me_sold, me_sells, me_fallen, me_willFall]
  | k + 1, M => by
    unfold x4_go
    split
    · exact gM_eq A H K M
    · rw [go_eq A H K k (gM A H K M)]
      generalize x4_go A H K k (gM A H K M) = Z
      rw [gM_eq]
      generalize gM A H K M = Y
      simp only [mgs_sold, mgs_sells, mgs_fallen, mgs_willFall, mg_sold_sells, mg_sold_fallen, mg_sold_willFall, mg_sells_sold, mg_sells_fallen, mg_sells_willFall, mg_fallen_sold, mg_fallen_sells, mg_fallen_willFall, mg_willFall_sold, mg_willFall_sells, mg_willFall_fallen, mm_sold, mm_sells, mm_fallen, mm_willFall, mc_sold_sells, mc_sold_fallen, mc_sold_willFall, mc_sells_fallen, mc_sells_willFall, mc_fallen_willFall]
def x4_goesTo_sold (M : MT) (m_sold : Nat → Int32) (m_coins : Nat → Int32) (A : Nat) (H : Nat) (K : Nat → Nat) (k : Nat) : Nat → Int32 := mt_sold (x4_go A H K k (ms_forced (ms_part (ms_buys (ms_buyerOf (ms_extraShock (ms_extraCap (ms_extraOf (ms_coins (ms_fallen (ms_sold M (x4_calm_sold (m_sold))) (x4_calm_fallen x4_plain_forced)) (x4_plain_coins (m_coins))) x4_plain_extraOf) x4_plain_extraCap) x4_plain_extraShock) x4_plain_buyerOf) x4_plain_buys) x4_plain_part) x4_plain_forced))
def x4_goesTo_sells (M : MT) (m_sold : Nat → Int32) (m_coins : Nat → Int32) (A : Nat) (H : Nat) (K : Nat → Nat) (k : Nat) : Nat → Int32 := mt_sells (x4_go A H K k (ms_forced (ms_part (ms_buys (ms_buyerOf (ms_extraShock (ms_extraCap (ms_extraOf (ms_coins (ms_fallen (ms_sold M (x4_calm_sold (m_sold))) (x4_calm_fallen x4_plain_forced)) (x4_plain_coins (m_coins))) x4_plain_extraOf) x4_plain_extraCap) x4_plain_extraShock) x4_plain_buyerOf) x4_plain_buys) x4_plain_part) x4_plain_forced))
def x4_goesTo_fallen (M : MT) (m_sold : Nat → Int32) (m_coins : Nat → Int32) (A : Nat) (H : Nat) (K : Nat → Nat) (k : Nat) : Int32 := mt_fallen (x4_go A H K k (ms_forced (ms_part (ms_buys (ms_buyerOf (ms_extraShock (ms_extraCap (ms_extraOf (ms_coins (ms_fallen (ms_sold M (x4_calm_sold (m_sold))) (x4_calm_fallen x4_plain_forced)) (x4_plain_coins (m_coins))) x4_plain_extraOf) x4_plain_extraCap) x4_plain_extraShock) x4_plain_buyerOf) x4_plain_buys) x4_plain_part) x4_plain_forced))
def x4_goesTo_willFall (M : MT) (m_sold : Nat → Int32) (m_coins : Nat → Int32) (A : Nat) (H : Nat) (K : Nat → Nat) (k : Nat) : Int32 := mt_willFall (x4_go A H K k (ms_forced (ms_part (ms_buys (ms_buyerOf (ms_extraShock (ms_extraCap (ms_extraOf (ms_coins (ms_fallen (ms_sold M (x4_calm_sold (m_sold))) (x4_calm_fallen x4_plain_forced)) (x4_plain_coins (m_coins))) x4_plain_extraOf) x4_plain_extraCap) x4_plain_extraShock) x4_plain_buyerOf) x4_plain_buys) x4_plain_part) x4_plain_forced))
def x4_goesTo_coins (m_coins : Nat → Int32) (k : Nat) : Nat → Int32 := x4_plain_coins (m_coins)
def x4_goesTo_extraOf (k : Nat) : Int32 := x4_plain_extraOf
def x4_goesTo_extraCap (k : Nat) : Int32 := x4_plain_extraCap
def x4_goesTo_extraShock (k : Nat) : Int32 := x4_plain_extraShock
def x4_goesTo_buyerOf (k : Nat) : Int32 := x4_plain_buyerOf
def x4_goesTo_buys (k : Nat) : Int32 := x4_plain_buys
def x4_goesTo_part (k : Nat) : Int32 := x4_plain_part
def x4_goesTo_forced (k : Nat) : Int32 := x4_plain_forced
set_option maxHeartbeats 4000000 in
theorem met_X4_goesTo {g : Zg} (hG : zG g) {G0 : zHG} {o : Nat} {M : MT} (hM : zMo g G0 o M) {A H : Nat} {K : Nat → Nat} (hN : zWf (mt_now M) A H K) (k : Nat) (h_k : k < 2001) : ZM g yX4_goesTo cX4_goesTo 4 none 9 0 0 [.ref o, .int (nI k)] G0 (fun r G' => r = none ∧ zMs g G0 G' o (ms_forced (ms_part (ms_buys (ms_buyerOf (ms_extraShock (ms_extraCap (ms_extraOf (ms_coins (ms_willFall (ms_fallen (ms_sells (ms_sold M (x4_goesTo_sold M (mt_sold M) (mt_coins M) A H K k)) (x4_goesTo_sells M (mt_sold M) (mt_coins M) A H K k)) (x4_goesTo_fallen M (mt_sold M) (mt_coins M) A H K k)) (x4_goesTo_willFall M (mt_sold M) (mt_coins M) A H K k)) (x4_goesTo_coins (mt_coins M) k)) (x4_goesTo_extraOf k)) (x4_goesTo_extraCap k)) (x4_goesTo_extraShock k)) (x4_goesTo_buyerOf k)) (x4_goesTo_buys k)) (x4_goesTo_part k)) (x4_goesTo_forced k))) := by
  have hfin : x4_go A H K k (ms_forced (ms_part (ms_buys (ms_buyerOf (ms_extraShock (ms_extraCap (ms_extraOf (ms_coins (ms_fallen (ms_sold M (x4_calm_sold (mt_sold M))) (x4_calm_fallen x4_plain_forced)) (x4_plain_coins (mt_coins M))) x4_plain_extraOf) x4_plain_extraCap) x4_plain_extraShock) x4_plain_buyerOf) x4_plain_buys) x4_plain_part) x4_plain_forced) = ms_forced (ms_part (ms_buys (ms_buyerOf (ms_extraShock (ms_extraCap (ms_extraOf (ms_coins (ms_willFall (ms_fallen (ms_sells (ms_sold M (x4_goesTo_sold M (mt_sold M) (mt_coins M) A H K k)) (x4_goesTo_sells M (mt_sold M) (mt_coins M) A H K k)) (x4_goesTo_fallen M (mt_sold M) (mt_coins M) A H K k)) (x4_goesTo_willFall M (mt_sold M) (mt_coins M) A H K k)) (x4_goesTo_coins (mt_coins M) k)) (x4_goesTo_extraOf k)) (x4_goesTo_extraCap k)) (x4_goesTo_extraShock k)) (x4_goesTo_buyerOf k)) (x4_goesTo_buys k)) (x4_goesTo_part k)) (x4_goesTo_forced k) := by
    rw [go_eq]
    unfold x4_goesTo_sold x4_goesTo_sells x4_goesTo_fallen x4_goesTo_willFall x4_goesTo_coins x4_goesTo_extraOf x4_goesTo_extraCap x4_goesTo_extraShock x4_goesTo_buyerOf x4_goesTo_buys x4_goesTo_part x4_goesTo_forced
    simp only [mc_sold_sells, mc_sold_fallen, mc_sold_willFall, mc_sold_coins, mc_sold_extraOf, mc_sold_extraCap, mc_sold_extraShock, mc_sold_buyerOf, mc_sold_buys, mc_sold_part, mc_sold_forced, mm_sold, mc_sells_fallen, mc_sells_willFall, mc_sells_coins, mc_sells_extraOf, mc_sells_extraCap, mc_sells_extraShock, mc_sells_buyerOf, mc_sells_buys, mc_sells_part, mc_sells_forced, mm_sells, mc_fallen_willFall, mc_fallen_coins, mc_fallen_extraOf, mc_fallen_extraCap, mc_fallen_extraShock, mc_fallen_buyerOf, mc_fallen_buys, mc_fallen_part, mc_fallen_forced, mm_fallen, mc_willFall_coins, mc_willFall_extraOf, mc_willFall_extraCap, mc_willFall_extraShock, mc_willFall_buyerOf, mc_willFall_buys, mc_willFall_part, mc_willFall_forced, mm_willFall, mc_coins_extraOf, mc_coins_extraCap, mc_coins_extraShock, mc_coins_buyerOf, mc_coins_buys, mc_coins_part, mc_coins_forced, mm_coins, mc_extraOf_extraCap, mc_extraOf_extraShock, mc_extraOf_buyerOf, mc_extraOf_buys, mc_extraOf_part, mc_extraOf_forced, mm_extraOf, mc_extraCap_extraShock, mc_extraCap_buyerOf, mc_extraCap_buys, mc_extraCap_part, mc_extraCap_forced, mm_extraCap, mc_extraShock_buyerOf, mc_extraShock_buys, mc_extraShock_part, mc_extraShock_forced, mm_extraShock, mc_buyerOf_buys, mc_buyerOf_part, mc_buyerOf_forced, mm_buyerOf, mc_buys_part, mc_buys_forced, mm_buys, mc_part_forced, mm_part, mm_forced]
  rw [← hfin]
  refine ZM_mk hG (by decide) (Nat.le_of_ble_eq_true rfl) ?_
  intro X hX hname hQ
  obtain ⟨G, hGe⟩ : ∃ z, z = G0 := ⟨_, rfl⟩
  have hM : zMs g G0 G o M := by rw [hGe]; exact zMs.rf hM
  show ZW g X 0 0 G0 0 [(0, .ref o), (1, .int (nI k))] []
  rw [← hGe]
  refine z_aload_n hX dX4_goesTo_0 1 rfl (i := 0) rfl 0 rfl ?_
  refine z_callVv hX cwX4_252 (met_X4_plain hG hM.1) hM.1.o rfl rfl dX4_goesTo_1 4 rfl rfl rfl (Nat.le_of_ble_eq_true rfl) (by decide) ⟨Nat.zero_le _, Nat.zero_le _⟩ (fun G hhM => ?_)
  have hM := zMs.tr hM hhM
  have hM : zMs g G0 G o (ms_forced (ms_part (ms_buys (ms_buyerOf (ms_extraShock (ms_extraCap (ms_extraOf (ms_coins M (x4_plain_coins (mt_coins M))) x4_plain_extraOf) x4_plain_extraCap) x4_plain_extraShock) x4_plain_buyerOf) x4_plain_buys) x4_plain_part) x4_plain_forced) := hM
  refine z_aload_n hX dX4_goesTo_4 5 rfl (i := 0) rfl 0 rfl ?_
  refine z_callVv hX cwX4_215 (met_X4_calm hG hM.1) hM.1.o rfl rfl dX4_goesTo_5 8 rfl rfl rfl (Nat.le_of_ble_eq_true rfl) (by decide) ⟨Nat.zero_le _, Nat.zero_le _⟩ (fun G hhM => ?_)
  have hM := zMs.tr hM hhM
  have hM : zMs g G0 G o (ms_forced (ms_part (ms_buys (ms_buyerOf (ms_extraShock (ms_extraCap (ms_extraOf (ms_coins (ms_fallen (ms_sold M (x4_calm_sold (mt_sold M))) (x4_calm_fallen x4_plain_forced)) (x4_plain_coins (mt_coins M))) x4_plain_extraOf) x4_plain_extraCap) x4_plain_extraShock) x4_plain_buyerOf) x4_plain_buys) x4_plain_part) x4_plain_forced) := by simpa only [mg_sold_coins, mg_sold_extraOf, mg_sold_extraCap, mg_sold_extraShock, mg_sold_buyerOf, mg_sold_buys, mg_sold_part, mg_sold_forced, mg_forced_coins, mg_forced_extraOf, mg_forced_extraCap, mg_forced_extraShock, mg_forced_buyerOf, mg_forced_buys, mg_forced_part, mgs_forced, mc_sold_fallen, mc_sold_coins, mc_sold_extraOf, mc_sold_extraCap, mc_sold_extraShock, mc_sold_buyerOf, mc_sold_buys, mc_sold_part, mc_sold_forced, mm_sold, mc_fallen_coins, mc_fallen_extraOf, mc_fallen_extraCap, mc_fallen_extraShock, mc_fallen_buyerOf, mc_fallen_buys, mc_fallen_part, mc_fallen_forced, mm_fallen, mc_coins_extraOf, mc_coins_extraCap, mc_coins_extraShock, mc_coins_buyerOf, mc_coins_buys, mc_coins_part, mc_coins_forced, mm_coins, mc_extraOf_extraCap, mc_extraOf_extraShock, mc_extraOf_buyerOf, mc_extraOf_buys, mc_extraOf_part, mc_extraOf_forced, mm_extraOf, mc_extraCap_extraShock, mc_extraCap_buyerOf, mc_extraCap_buys, mc_extraCap_part, mc_extraCap_forced, mm_extraCap, mc_extraShock_buyerOf, mc_extraShock_buys, mc_extraShock_part, mc_extraShock_forced, mm_extraShock, mc_buyerOf_buys, mc_buyerOf_part, mc_buyerOf_forced, mm_buyerOf, mc_buys_part, mc_buys_forced, mm_buys, mc_part_forced, mm_part, mm_forced] using hM
  refine z_iconst hX dX4_goesTo_8 9 rfl zki_1 ?_
  refine z_istore_n hX dX4_goesTo_9 10 rfl (i := 2) rfl (Nat.le_of_ble_eq_true rfl) rfl (L' := [(0, .ref o), (1, .int (nI k)), (2, .int 1)]) rfl ?_
  refine z_iconst hX dX4_goesTo_10 11 rfl zki_0 ?_
  refine z_istore_n hX dX4_goesTo_11 12 rfl (i := 3) rfl (Nat.le_of_ble_eq_true rfl) rfl (L' := [(0, .ref o), (1, .int (nI k)), (2, .int 1), (3, .int 0)]) rfl ?_
  generalize hMc : ms_forced (ms_part (ms_buys (ms_buyerOf (ms_extraShock (ms_extraCap (ms_extraOf (ms_coins (ms_fallen (ms_sold M (x4_calm_sold (mt_sold M))) (x4_calm_fallen x4_plain_forced)) (x4_plain_coins (mt_coins M))) x4_plain_extraOf) x4_plain_extraCap) x4_plain_extraShock) x4_plain_buyerOf) x4_plain_buys) x4_plain_part) x4_plain_forced = Mc at hM hQ
  have hNc : zWf (mt_now Mc) A H K := by rw [← hMc]; exact zWf_eq ((mg_now_forced _ _).trans ((mg_now_part _ _).trans ((mg_now_buys _ _).trans ((mg_now_buyerOf _ _).trans ((mg_now_extraShock _ _).trans ((mg_now_extraCap _ _).trans ((mg_now_extraOf _ _).trans ((mg_now_coins _ _).trans ((mg_now_fallen _ _).trans (mg_now_sold _ _)))))))))) hN
  have Lp : ∀ r j : Nat, j + r = k → ∀ (x : Int32) (Mj : MT) (G : zHG), ¬ x = 0 → zWf (mt_now Mj) A H K → x4_go A H K r Mj = x4_go A H K k Mc → zMs g G0 G o Mj → ZW g X 0 0 G 12 [(0, .ref o), (1, .int (nI k)), (2, .int x), (3, .int (nI j))] [] := by
    intro r
    induction r with
    | zero =>
      intro j hj x Mj G hx hNj hgo hM
      rw [show j = k from by omega]
      have hgo : Mj = x4_go A H K k Mc := hgo
      rw [hgo] at hM
      refine z_iload_n hX dX4_goesTo_12 13 rfl (i := 3) rfl 3 rfl ?_
      refine z_iload_n hX dX4_goesTo_13 14 rfl (i := 1) rfl 1 rfl ?_
      refine z_icmp_geN hX k k (by omega) (by omega) dX4_goesTo_14 17 rfl (tgt := 32) (by decide) (fun c1 => ?_) (fun c1 => ?_)
      · exact z_vret hX hQ (Nat.zero_le _) (Nat.zero_le _) rfl dX4_goesTo_32 ⟨rfl, hM⟩
      · exact absurd c1 (by omega)
    | succ r ih =>
      intro j hj x Mj G hx hNj hgo hM
      refine z_iload_n hX dX4_goesTo_12 13 rfl (i := 3) rfl 3 rfl ?_
      refine z_iload_n hX dX4_goesTo_13 14 rfl (i := 1) rfl 1 rfl ?_
      refine z_icmp_geN hX j k (by omega) (by omega) dX4_goesTo_14 17 rfl (tgt := 32) (by decide) (fun c2 => ?_) (fun c2 => ?_)
      · exact absurd c2 (by omega)
      refine z_iload_n hX dX4_goesTo_17 18 rfl (i := 2) rfl 2 rfl ?_
      refine z_if_eq hX dX4_goesTo_18 21 rfl (tgt := 32) (by decide) (fun c3 => ?_) (fun c3 => ?_)
      · exact absurd c3 hx
      refine z_aload_n hX dX4_goesTo_21 22 rfl (i := 0) rfl 0 rfl ?_
      refine z_callVm hX cwX4_211 (w := .int (gV A H K Mj)) (met_goesOn hG hM.1 hNj) hM.1.o rfl rfl dX4_goesTo_22 25 rfl rfl rfl (Nat.le_of_ble_eq_true rfl) (by decide) ⟨Nat.zero_le _, Nat.zero_le _⟩ (fun G hhM => ?_)
      have hM := zMs.tr hM hhM
      refine z_istore_n hX dX4_goesTo_25 26 rfl (i := 2) rfl (Nat.le_of_ble_eq_true rfl) rfl (L' := [(0, .ref o), (1, .int (nI k)), (2, .int (gV A H K Mj)), (3, .int (nI j))]) rfl ?_
      refine z_iinc hX dX4_goesTo_26 29 rfl 3 rfl (w := nI (j + 1)) (nI_1 j) (Nat.le_of_ble_eq_true rfl) rfl (L' := [(0, .ref o), (1, .int (nI k)), (2, .int (gV A H K Mj)), (3, .int (nI (j + 1)))]) rfl ?_
      by_cases hz : gV A H K Mj = 0
      ·
        have hgo : gM A H K Mj = x4_go A H K k Mc := by rw [← hgo]; unfold x4_go; rw [if_pos hz]
        rw [hgo] at hM
        refine z_goto hX dX4_goesTo_29 (tgt := 12) (by decide) ?_
        refine z_iload_n hX dX4_goesTo_12 13 rfl (i := 3) rfl 3 rfl ?_
        refine z_iload_n hX dX4_goesTo_13 14 rfl (i := 1) rfl 1 rfl ?_
        refine z_icmp_geN hX (j + 1) k (by omega) (by omega) dX4_goesTo_14 17 rfl (tgt := 32) (by decide) (fun c4 => ?_) (fun c4 => ?_)
        · exact z_vret hX hQ (Nat.zero_le _) (Nat.zero_le _) rfl dX4_goesTo_32 ⟨rfl, hM⟩
        refine z_iload_n hX dX4_goesTo_17 18 rfl (i := 2) rfl 2 rfl ?_
        refine z_if_eq hX dX4_goesTo_18 21 rfl (tgt := 32) (by decide) (fun c5 => ?_) (fun c5 => ?_)
        · exact z_vret hX hQ (Nat.zero_le _) (Nat.zero_le _) rfl dX4_goesTo_32 ⟨rfl, hM⟩
        · exact absurd hz c5
      ·
        refine z_goto hX dX4_goesTo_29 (tgt := 12) (by decide) ?_
        exact ih (j + 1) (by omega) _ _ _ hz (by rw [gM_now]; exact hNj) (by rw [← hgo]; conv => rhs; unfold x4_go; rw [if_neg hz]) hM
  exact Lp k 0 (by omega) _ Mc _ (by decide) hNc rfl hM
def x4_round (M : MT) (m_now : Nat → Int32) (m_sold : Nat → Int32) (m_coins : Nat → Int32) (A : Nat) (H : Nat) (K : Nat → Nat) (k : Int32) (what : Int32) : Int32 := (if zin k 2001 then (if x4_isAsked A what then x4_told (m_now) (x4_goesTo_sold M (m_sold) (m_coins) A H K k.toNatClampNeg) (x4_goesTo_fallen M (m_sold) (m_coins) A H K k.toNatClampNeg) (x4_goesTo_extraOf k.toNatClampNeg) (x4_goesTo_extraShock k.toNatClampNeg) (x4_goesTo_buyerOf k.toNatClampNeg) (x4_goesTo_buys k.toNatClampNeg) (x4_goesTo_part k.toNatClampNeg) A H K what.toNatClampNeg else (-1) : Int32) else (-1) : Int32)
def x4_round_sold (M : MT) (m_sold : Nat → Int32) (m_coins : Nat → Int32) (A : Nat) (H : Nat) (K : Nat → Nat) (k : Int32) (what : Int32) : Nat → Int32 := if zin k 2001 then if x4_isAsked A what then x4_goesTo_sold M (m_sold) (m_coins) A H K k.toNatClampNeg else m_sold else m_sold
def x4_round_sells (M : MT) (m_sold : Nat → Int32) (m_sells : Nat → Int32) (m_coins : Nat → Int32) (A : Nat) (H : Nat) (K : Nat → Nat) (k : Int32) (what : Int32) : Nat → Int32 := if zin k 2001 then if x4_isAsked A what then x4_goesTo_sells M (m_sold) (m_coins) A H K k.toNatClampNeg else m_sells else m_sells
def x4_round_fallen (M : MT) (m_sold : Nat → Int32) (m_fallen : Int32) (m_coins : Nat → Int32) (A : Nat) (H : Nat) (K : Nat → Nat) (k : Int32) (what : Int32) : Int32 := if zin k 2001 then if x4_isAsked A what then x4_goesTo_fallen M (m_sold) (m_coins) A H K k.toNatClampNeg else m_fallen else m_fallen
def x4_round_willFall (M : MT) (m_sold : Nat → Int32) (m_willFall : Int32) (m_coins : Nat → Int32) (A : Nat) (H : Nat) (K : Nat → Nat) (k : Int32) (what : Int32) : Int32 := if zin k 2001 then if x4_isAsked A what then x4_goesTo_willFall M (m_sold) (m_coins) A H K k.toNatClampNeg else m_willFall else m_willFall
def x4_round_coins (m_coins : Nat → Int32) (A : Nat) (k : Int32) (what : Int32) : Nat → Int32 := if zin k 2001 then if x4_isAsked A what then x4_goesTo_coins (m_coins) k.toNatClampNeg else m_coins else m_coins
def x4_round_extraOf (m_extraOf : Int32) (A : Nat) (k : Int32) (what : Int32) : Int32 := if zin k 2001 then if x4_isAsked A what then x4_goesTo_extraOf k.toNatClampNeg else m_extraOf else m_extraOf
def x4_round_extraCap (m_extraCap : Int32) (A : Nat) (k : Int32) (what : Int32) : Int32 := if zin k 2001 then if x4_isAsked A what then x4_goesTo_extraCap k.toNatClampNeg else m_extraCap else m_extraCap
def x4_round_extraShock (m_extraShock : Int32) (A : Nat) (k : Int32) (what : Int32) : Int32 := if zin k 2001 then if x4_isAsked A what then x4_goesTo_extraShock k.toNatClampNeg else m_extraShock else m_extraShock
def x4_round_buyerOf (m_buyerOf : Int32) (A : Nat) (k : Int32) (what : Int32) : Int32 := if zin k 2001 then if x4_isAsked A what then x4_goesTo_buyerOf k.toNatClampNeg else m_buyerOf else m_buyerOf
def x4_round_buys (m_buys : Int32) (A : Nat) (k : Int32) (what : Int32) : Int32 := if zin k 2001 then if x4_isAsked A what then x4_goesTo_buys k.toNatClampNeg else m_buys else m_buys
def x4_round_part (m_part : Int32) (A : Nat) (k : Int32) (what : Int32) : Int32 := if zin k 2001 then if x4_isAsked A what then x4_goesTo_part k.toNatClampNeg else m_part else m_part
def x4_round_forced (m_forced : Int32) (A : Nat) (k : Int32) (what : Int32) : Int32 := if zin k 2001 then if x4_isAsked A what then x4_goesTo_forced k.toNatClampNeg else m_forced else m_forced
set_option maxHeartbeats 4000000 in
theorem met_X4_round {g : Zg} (hG : zG g) {G0 : zHG} {o : Nat} {M : MT} (hM : zMo g G0 o M) {A H : Nat} {K : Nat → Nat} (hN : zWf (mt_now M) A H K) (k : Int32) (what : Int32)    : ZM g yX4_round cX4_round 3 (some FieldType.int) 10 0 0 [.ref o, .int k, .int what] G0 (fun r G' => r = some (.int (x4_round M (mt_now M) (mt_sold M) (mt_coins M) A H K k what)) ∧ zMs g G0 G' o (ms_forced (ms_part (ms_buys (ms_buyerOf (ms_extraShock (ms_extraCap (ms_extraOf (ms_coins (ms_willFall (ms_fallen (ms_sells (ms_sold M (x4_round_sold M (mt_sold M) (mt_coins M) A H K k what)) (x4_round_sells M (mt_sold M) (mt_sells M) (mt_coins M) A H K k what)) (x4_round_fallen M (mt_sold M) (mt_fallen M) (mt_coins M) A H K k what)) (x4_round_willFall M (mt_sold M) (mt_willFall M) (mt_coins M) A H K k what)) (x4_round_coins (mt_coins M) A k what)) (x4_round_extraOf (mt_extraOf M) A k what)) (x4_round_extraCap (mt_extraCap M) A k what)) (x4_round_extraShock (mt_extraShock M) A k what)) (x4_round_buyerOf (mt_buyerOf M) A k what)) (x4_round_buys (mt_buys M) A k what)) (x4_round_part (mt_part M) A k what)) (x4_round_forced (mt_forced M) A k what))) := by
  unfold x4_round x4_round_sold x4_round_sells x4_round_fallen x4_round_willFall x4_round_coins x4_round_extraOf x4_round_extraCap x4_round_extraShock x4_round_buyerOf x4_round_buys x4_round_part x4_round_forced
  have hN2 := hN.2.1
  have hN4 := hN.2.2.2.1
  refine ZM_mk hG (by decide) (Nat.le_of_ble_eq_true rfl) ?_
  intro X hX hname hQ
  obtain ⟨G, hGe⟩ : ∃ z, z = G0 := ⟨_, rfl⟩
  have hM : zMs g G0 G o M := by rw [hGe]; exact zMs.rf hM
  show ZW g X 0 0 G0 0 [(0, .ref o), (1, .int k), (2, .int what)] []
  rw [← hGe]
  refine z_iload_n hX dX4_round_0 1 rfl (i := 1) rfl 1 rfl ?_
  refine z_iconst hX dX4_round_1 2 rfl zki_0 ?_
  refine z_sipush hX dX4_round_2 5 rfl zks_2000 ?_
  refine z_callSp hX cwX4_68 (w := .int (if zin k 2001 then 1 else 0 : Int32)) (met_X4_isInz hG k 2000 2001 (by decide)) dX4_round_5 8 rfl rfl rfl (Nat.le_of_ble_eq_true rfl) (by decide) ⟨Nat.zero_le _, Nat.zero_le _⟩ ?_
  refine z_if_eqP hX (zin k 2001) dX4_round_8 11 rfl (tgt := 19) (by decide) (fun c1 => ?_) (fun c1 => ?_)
  ·
    refine z_iconst hX dX4_round_19 20 rfl zki_m1 ?_
    exact z_iret hX hQ (Nat.zero_le _) (Nat.zero_le _) rfl dX4_round_20 ⟨(by first | (simp only [if_neg c1] <;> rfl; done) | grind), (by first | (simpa only [if_neg c1, me_sold, me_sells, me_fallen, me_willFall, me_coins, me_extraOf, me_extraCap, me_extraShock, me_buyerOf, me_buys, me_part, me_forced] using hM) | (simpa only [if_neg c1, me2_sold, me2_sells, me2_fallen, me2_willFall, me2_coins, me2_extraOf, me2_extraCap, me2_extraShock, me2_buyerOf, me2_buys, me2_part, me2_forced, mg_sells_sold, mg_fallen_sold, mg_fallen_sells, mg_willFall_sold, mg_willFall_sells, mg_willFall_fallen, mg_coins_sold, mg_coins_sells, mg_coins_fallen, mg_coins_willFall, mg_extraOf_sold, mg_extraOf_sells, mg_extraOf_fallen, mg_extraOf_willFall, mg_extraOf_coins, mg_extraCap_sold, mg_extraCap_sells, mg_extraCap_fallen, mg_extraCap_willFall, mg_extraCap_coins, mg_extraCap_extraOf, mg_extraShock_sold, mg_extraShock_sells, mg_extraShock_fallen, mg_extraShock_willFall, mg_extraShock_coins, mg_extraShock_extraOf, mg_extraShock_extraCap, mg_buyerOf_sold, mg_buyerOf_sells, mg_buyerOf_fallen, mg_buyerOf_willFall, mg_buyerOf_coins, mg_buyerOf_extraOf, mg_buyerOf_extraCap, mg_buyerOf_extraShock, mg_buys_sold, mg_buys_sells, mg_buys_fallen, mg_buys_willFall, mg_buys_coins, mg_buys_extraOf, mg_buys_extraCap, mg_buys_extraShock, mg_buys_buyerOf, mg_part_sold, mg_part_sells, mg_part_fallen, mg_part_willFall, mg_part_coins, mg_part_extraOf, mg_part_extraCap, mg_part_extraShock, mg_part_buyerOf, mg_part_buys, mg_forced_sold, mg_forced_sells, mg_forced_fallen, mg_forced_willFall, mg_forced_coins, mg_forced_extraOf, mg_forced_extraCap, mg_forced_extraShock, mg_forced_buyerOf, mg_forced_buys, mg_forced_part] using hM))⟩
  ·
    have e_k := zin_eq c1
    have l_k := zin_lt c1
    refine z_eqL (L' := [(0, .ref o), (1, .int (nI k.toNatClampNeg)), (2, .int what)]) (st' := []) (by rw [← e_k]) (by first | rfl | rw [← e_k]) ?_
    refine z_aload_n hX dX4_round_11 12 rfl (i := 0) rfl 0 rfl ?_
    refine z_iload_n hX dX4_round_12 13 rfl (i := 2) rfl 2 rfl ?_
    refine z_callVp hX cwX4_267 (w := .int (if x4_isAsked A what then 1 else 0 : Int32)) (met_X4_isAsked hG hM.1 hN what) hM.1.o rfl rfl dX4_round_13 16 rfl rfl rfl (Nat.le_of_ble_eq_true rfl) (by decide) ⟨Nat.zero_le _, Nat.zero_le _⟩ ?_
    refine z_if_neP hX (x4_isAsked A what) dX4_round_16 19 rfl (tgt := 21) (by decide) (fun c2 => ?_) (fun c2 => ?_)
    ·
      have e_what := zin_eq (x4_asked_lt c2)
      have l_what := zin_lt (x4_asked_lt c2)
      have a_what := x4_asked_A c2
      refine z_eqL (L' := [(0, .ref o), (1, .int (nI k.toNatClampNeg)), (2, .int (nI what.toNatClampNeg))]) (st' := []) (by rw [← e_what]) (by first | rfl | rw [← e_what]) ?_
      refine z_aload_n hX dX4_round_21 22 rfl (i := 0) rfl 0 rfl ?_
      refine z_iload_n hX dX4_round_22 23 rfl (i := 1) rfl 1 rfl ?_
      refine z_callVv hX cwX4_274 (met_X4_goesTo hG hM.1 hN k.toNatClampNeg (by omega)) hM.1.o rfl rfl dX4_round_23 26 rfl rfl rfl (Nat.le_of_ble_eq_true rfl) (by decide) ⟨Nat.zero_le _, Nat.zero_le _⟩ (fun G hhM => ?_)
      have hM := zMs.tr hM hhM
      have hM : zMs g G0 G o (ms_forced (ms_part (ms_buys (ms_buyerOf (ms_extraShock (ms_extraCap (ms_extraOf (ms_coins (ms_willFall (ms_fallen (ms_sells (ms_sold M (x4_goesTo_sold M (mt_sold M) (mt_coins M) A H K k.toNatClampNeg)) (x4_goesTo_sells M (mt_sold M) (mt_coins M) A H K k.toNatClampNeg)) (x4_goesTo_fallen M (mt_sold M) (mt_coins M) A H K k.toNatClampNeg)) (x4_goesTo_willFall M (mt_sold M) (mt_coins M) A H K k.toNatClampNeg)) (x4_goesTo_coins (mt_coins M) k.toNatClampNeg)) (x4_goesTo_extraOf k.toNatClampNeg)) (x4_goesTo_extraCap k.toNatClampNeg)) (x4_goesTo_extraShock k.toNatClampNeg)) (x4_goesTo_buyerOf k.toNatClampNeg)) (x4_goesTo_buys k.toNatClampNeg)) (x4_goesTo_part k.toNatClampNeg)) (x4_goesTo_forced k.toNatClampNeg)) := hM
      refine z_aload_n hX dX4_round_26 27 rfl (i := 0) rfl 0 rfl ?_
      refine z_iload_n hX dX4_round_27 28 rfl (i := 2) rfl 2 rfl ?_
      refine z_callVq hX cwX4_258 (w := .int (x4_told (mt_now M) (x4_goesTo_sold M (mt_sold M) (mt_coins M) A H K k.toNatClampNeg) (x4_goesTo_fallen M (mt_sold M) (mt_coins M) A H K k.toNatClampNeg) (x4_goesTo_extraOf k.toNatClampNeg) (x4_goesTo_extraShock k.toNatClampNeg) (x4_goesTo_buyerOf k.toNatClampNeg) (x4_goesTo_buys k.toNatClampNeg) (x4_goesTo_part k.toNatClampNeg) A H K what.toNatClampNeg)) (met_X4_told hG hM.1 (zWf_eq ((mg_now_forced _ _).trans ((mg_now_part _ _).trans ((mg_now_buys _ _).trans ((mg_now_buyerOf _ _).trans ((mg_now_extraShock _ _).trans ((mg_now_extraCap _ _).trans ((mg_now_extraOf _ _).trans ((mg_now_coins _ _).trans ((mg_now_willFall _ _).trans ((mg_now_fallen _ _).trans ((mg_now_sells _ _).trans (mg_now_sold _ _)))))))))))) hN) what.toNatClampNeg (by omega) (by first | assumption | omega)) (by simp only [mg_now_sold, mg_now_sells, mg_now_fallen, mg_now_willFall, mg_now_coins, mg_now_extraOf, mg_now_extraCap, mg_now_extraShock, mg_now_buyerOf, mg_now_buys, mg_now_part, mg_now_forced, mgs_sold, mg_sold_sells, mg_sold_fallen, mg_sold_willFall, mg_sold_coins, mg_sold_extraOf, mg_sold_extraCap, mg_sold_extraShock, mg_sold_buyerOf, mg_sold_buys, mg_sold_part, mg_sold_forced, mg_fallen_sold, mg_fallen_sells, mgs_fallen, mg_fallen_willFall, mg_fallen_coins, mg_fallen_extraOf, mg_fallen_extraCap, mg_fallen_extraShock, mg_fallen_buyerOf, mg_fallen_buys, mg_fallen_part, mg_fallen_forced, mg_extraOf_sold, mg_extraOf_sells, mg_extraOf_fallen, mg_extraOf_willFall, mg_extraOf_coins, mgs_extraOf, mg_extraOf_extraCap, mg_extraOf_extraShock, mg_extraOf_buyerOf, mg_extraOf_buys, mg_extraOf_part, mg_extraOf_forced, mg_extraShock_sold, mg_extraShock_sells, mg_extraShock_fallen, mg_extraShock_willFall, mg_extraShock_coins, mg_extraShock_extraOf, mg_extraShock_extraCap, mgs_extraShock, mg_extraShock_buyerOf, mg_extraShock_buys, mg_extraShock_part, mg_extraShock_forced, mg_buyerOf_sold, mg_buyerOf_sells, mg_buyerOf_fallen, mg_buyerOf_willFall, mg_buyerOf_coins, mg_buyerOf_extraOf, mg_buyerOf_extraCap, mg_buyerOf_extraShock, mgs_buyerOf, mg_buyerOf_buys, mg_buyerOf_part, mg_buyerOf_forced, mg_buys_sold, mg_buys_sells, mg_buys_fallen, mg_buys_willFall, mg_buys_coins, mg_buys_extraOf, mg_buys_extraCap, mg_buys_extraShock, mg_buys_buyerOf, mgs_buys, mg_buys_part, mg_buys_forced, mg_part_sold, mg_part_sells, mg_part_fallen, mg_part_willFall, mg_part_coins, mg_part_extraOf, mg_part_extraCap, mg_part_extraShock, mg_part_buyerOf, mg_part_buys, mgs_part, mg_part_forced]) hM.1.o rfl rfl dX4_round_28 31 rfl rfl rfl (Nat.le_of_ble_eq_true rfl) (by decide) ⟨Nat.zero_le _, Nat.zero_le _⟩ ?_
      exact z_iret hX hQ (Nat.zero_le _) (Nat.zero_le _) rfl dX4_round_31 ⟨(by first | (simp only [if_pos c1, if_pos c2] <;> rfl; done) | grind), (by first | (simpa only [if_pos c1, if_pos c2, me_sold, me_sells, me_fallen, me_willFall, me_coins, me_extraOf, me_extraCap, me_extraShock, me_buyerOf, me_buys, me_part, me_forced] using hM) | (simpa only [if_pos c1, if_pos c2, me2_sold, me2_sells, me2_fallen, me2_willFall, me2_coins, me2_extraOf, me2_extraCap, me2_extraShock, me2_buyerOf, me2_buys, me2_part, me2_forced, mg_sells_sold, mg_fallen_sold, mg_fallen_sells, mg_willFall_sold, mg_willFall_sells, mg_willFall_fallen, mg_coins_sold, mg_coins_sells, mg_coins_fallen, mg_coins_willFall, mg_extraOf_sold, mg_extraOf_sells, mg_extraOf_fallen, mg_extraOf_willFall, mg_extraOf_coins, mg_extraCap_sold, mg_extraCap_sells, mg_extraCap_fallen, mg_extraCap_willFall, mg_extraCap_coins, mg_extraCap_extraOf, mg_extraShock_sold, mg_extraShock_sells, mg_extraShock_fallen, mg_extraShock_willFall, mg_extraShock_coins, mg_extraShock_extraOf, mg_extraShock_extraCap, mg_buyerOf_sold, mg_buyerOf_sells, mg_buyerOf_fallen, mg_buyerOf_willFall, mg_buyerOf_coins, mg_buyerOf_extraOf, mg_buyerOf_extraCap, mg_buyerOf_extraShock, mg_buys_sold, mg_buys_sells, mg_buys_fallen, mg_buys_willFall, mg_buys_coins, mg_buys_extraOf, mg_buys_extraCap, mg_buys_extraShock, mg_buys_buyerOf, mg_part_sold, mg_part_sells, mg_part_fallen, mg_part_willFall, mg_part_coins, mg_part_extraOf, mg_part_extraCap, mg_part_extraShock, mg_part_buyerOf, mg_part_buys, mg_forced_sold, mg_forced_sells, mg_forced_fallen, mg_forced_willFall, mg_forced_coins, mg_forced_extraOf, mg_forced_extraCap, mg_forced_extraShock, mg_forced_buyerOf, mg_forced_buys, mg_forced_part] using hM))⟩
    ·
      refine z_iconst hX dX4_round_19 20 rfl zki_m1 ?_
      exact z_iret hX hQ (Nat.zero_le _) (Nat.zero_le _) rfl dX4_round_20 ⟨(by first | (simp only [if_pos c1, if_neg c2] <;> rfl; done) | grind), (by first | (simpa only [if_pos c1, if_neg c2, me_sold, me_sells, me_fallen, me_willFall, me_coins, me_extraOf, me_extraCap, me_extraShock, me_buyerOf, me_buys, me_part, me_forced] using hM) | (simpa only [if_pos c1, if_neg c2, me2_sold, me2_sells, me2_fallen, me2_willFall, me2_coins, me2_extraOf, me2_extraCap, me2_extraShock, me2_buyerOf, me2_buys, me2_part, me2_forced, mg_sells_sold, mg_fallen_sold, mg_fallen_sells, mg_willFall_sold, mg_willFall_sells, mg_willFall_fallen, mg_coins_sold, mg_coins_sells, mg_coins_fallen, mg_coins_willFall, mg_extraOf_sold, mg_extraOf_sells, mg_extraOf_fallen, mg_extraOf_willFall, mg_extraOf_coins, mg_extraCap_sold, mg_extraCap_sells, mg_extraCap_fallen, mg_extraCap_willFall, mg_extraCap_coins, mg_extraCap_extraOf, mg_extraShock_sold, mg_extraShock_sells, mg_extraShock_fallen, mg_extraShock_willFall, mg_extraShock_coins, mg_extraShock_extraOf, mg_extraShock_extraCap, mg_buyerOf_sold, mg_buyerOf_sells, mg_buyerOf_fallen, mg_buyerOf_willFall, mg_buyerOf_coins, mg_buyerOf_extraOf, mg_buyerOf_extraCap, mg_buyerOf_extraShock, mg_buys_sold, mg_buys_sells, mg_buys_fallen, mg_buys_willFall, mg_buys_coins, mg_buys_extraOf, mg_buys_extraCap, mg_buys_extraShock, mg_buys_buyerOf, mg_part_sold, mg_part_sells, mg_part_fallen, mg_part_willFall, mg_part_coins, mg_part_extraOf, mg_part_extraCap, mg_part_extraShock, mg_part_buyerOf, mg_part_buys, mg_forced_sold, mg_forced_sells, mg_forced_fallen, mg_forced_willFall, mg_forced_coins, mg_forced_extraOf, mg_forced_extraCap, mg_forced_extraShock, mg_forced_buyerOf, mg_forced_buys, mg_forced_part] using hM))⟩
def x4_worthIn (M : MT) (m_now : Nat → Int32) (m_sold : Nat → Int32) (m_coins : Nat → Int32) (A : Nat) (H : Nat) (K : Nat → Nat) (k : Int32) (house : Int32) : Int32 := (if zin k 2001 then (if zin house H then x4_worthNow (m_now) (x4_goesTo_sold M (m_sold) (m_coins) A H K k.toNatClampNeg) (x4_goesTo_fallen M (m_sold) (m_coins) A H K k.toNatClampNeg) (x4_goesTo_coins (m_coins) k.toNatClampNeg) (x4_goesTo_extraOf k.toNatClampNeg) (x4_goesTo_extraShock k.toNatClampNeg) (x4_goesTo_buyerOf k.toNatClampNeg) (x4_goesTo_buys k.toNatClampNeg) (x4_goesTo_part k.toNatClampNeg) A H K house.toNatClampNeg else (-1000000) : Int32) else (-1000000) : Int32)
def x4_worthIn_sold (M : MT) (m_sold : Nat → Int32) (m_coins : Nat → Int32) (A : Nat) (H : Nat) (K : Nat → Nat) (k : Int32) (house : Int32) : Nat → Int32 := if zin k 2001 then if zin house H then x4_goesTo_sold M (m_sold) (m_coins) A H K k.toNatClampNeg else m_sold else m_sold
def x4_worthIn_sells (M : MT) (m_sold : Nat → Int32) (m_sells : Nat → Int32) (m_coins : Nat → Int32) (A : Nat) (H : Nat) (K : Nat → Nat) (k : Int32) (house : Int32) : Nat → Int32 := if zin k 2001 then if zin house H then x4_goesTo_sells M (m_sold) (m_coins) A H K k.toNatClampNeg else m_sells else m_sells
def x4_worthIn_fallen (M : MT) (m_sold : Nat → Int32) (m_fallen : Int32) (m_coins : Nat → Int32) (A : Nat) (H : Nat) (K : Nat → Nat) (k : Int32) (house : Int32) : Int32 := if zin k 2001 then if zin house H then x4_goesTo_fallen M (m_sold) (m_coins) A H K k.toNatClampNeg else m_fallen else m_fallen
def x4_worthIn_willFall (M : MT) (m_sold : Nat → Int32) (m_willFall : Int32) (m_coins : Nat → Int32) (A : Nat) (H : Nat) (K : Nat → Nat) (k : Int32) (house : Int32) : Int32 := if zin k 2001 then if zin house H then x4_goesTo_willFall M (m_sold) (m_coins) A H K k.toNatClampNeg else m_willFall else m_willFall
def x4_worthIn_coins (m_coins : Nat → Int32) (H : Nat) (k : Int32) (house : Int32) : Nat → Int32 := if zin k 2001 then if zin house H then x4_goesTo_coins (m_coins) k.toNatClampNeg else m_coins else m_coins
def x4_worthIn_extraOf (m_extraOf : Int32) (H : Nat) (k : Int32) (house : Int32) : Int32 := if zin k 2001 then if zin house H then x4_goesTo_extraOf k.toNatClampNeg else m_extraOf else m_extraOf
def x4_worthIn_extraCap (m_extraCap : Int32) (H : Nat) (k : Int32) (house : Int32) : Int32 := if zin k 2001 then if zin house H then x4_goesTo_extraCap k.toNatClampNeg else m_extraCap else m_extraCap
def x4_worthIn_extraShock (m_extraShock : Int32) (H : Nat) (k : Int32) (house : Int32) : Int32 := if zin k 2001 then if zin house H then x4_goesTo_extraShock k.toNatClampNeg else m_extraShock else m_extraShock
def x4_worthIn_buyerOf (m_buyerOf : Int32) (H : Nat) (k : Int32) (house : Int32) : Int32 := if zin k 2001 then if zin house H then x4_goesTo_buyerOf k.toNatClampNeg else m_buyerOf else m_buyerOf
def x4_worthIn_buys (m_buys : Int32) (H : Nat) (k : Int32) (house : Int32) : Int32 := if zin k 2001 then if zin house H then x4_goesTo_buys k.toNatClampNeg else m_buys else m_buys
def x4_worthIn_part (m_part : Int32) (H : Nat) (k : Int32) (house : Int32) : Int32 := if zin k 2001 then if zin house H then x4_goesTo_part k.toNatClampNeg else m_part else m_part
def x4_worthIn_forced (m_forced : Int32) (H : Nat) (k : Int32) (house : Int32) : Int32 := if zin k 2001 then if zin house H then x4_goesTo_forced k.toNatClampNeg else m_forced else m_forced
set_option maxHeartbeats 4000000 in
theorem met_X4_worthIn {g : Zg} (hG : zG g) {G0 : zHG} {o : Nat} {M : MT} (hM : zMo g G0 o M) {A H : Nat} {K : Nat → Nat} (hN : zWf (mt_now M) A H K) (k : Int32) (house : Int32)    : ZM g yX4_worthIn cX4_worthIn 3 (some FieldType.int) 10 0 0 [.ref o, .int k, .int house] G0 (fun r G' => r = some (.int (x4_worthIn M (mt_now M) (mt_sold M) (mt_coins M) A H K k house)) ∧ zMs g G0 G' o (ms_forced (ms_part (ms_buys (ms_buyerOf (ms_extraShock (ms_extraCap (ms_extraOf (ms_coins (ms_willFall (ms_fallen (ms_sells (ms_sold M (x4_worthIn_sold M (mt_sold M) (mt_coins M) A H K k house)) (x4_worthIn_sells M (mt_sold M) (mt_sells M) (mt_coins M) A H K k house)) (x4_worthIn_fallen M (mt_sold M) (mt_fallen M) (mt_coins M) A H K k house)) (x4_worthIn_willFall M (mt_sold M) (mt_willFall M) (mt_coins M) A H K k house)) (x4_worthIn_coins (mt_coins M) H k house)) (x4_worthIn_extraOf (mt_extraOf M) H k house)) (x4_worthIn_extraCap (mt_extraCap M) H k house)) (x4_worthIn_extraShock (mt_extraShock M) H k house)) (x4_worthIn_buyerOf (mt_buyerOf M) H k house)) (x4_worthIn_buys (mt_buys M) H k house)) (x4_worthIn_part (mt_part M) H k house)) (x4_worthIn_forced (mt_forced M) H k house))) := by
  unfold x4_worthIn x4_worthIn_sold x4_worthIn_sells x4_worthIn_fallen x4_worthIn_willFall x4_worthIn_coins x4_worthIn_extraOf x4_worthIn_extraCap x4_worthIn_extraShock x4_worthIn_buyerOf x4_worthIn_buys x4_worthIn_part x4_worthIn_forced
  have hN2 := hN.2.1
  have hN4 := hN.2.2.2.1
  refine ZM_mk hG (by decide) (Nat.le_of_ble_eq_true rfl) ?_
  intro X hX hname hQ
  obtain ⟨G, hGe⟩ : ∃ z, z = G0 := ⟨_, rfl⟩
  have hM : zMs g G0 G o M := by rw [hGe]; exact zMs.rf hM
  show ZW g X 0 0 G0 0 [(0, .ref o), (1, .int k), (2, .int house)] []
  rw [← hGe]
  refine z_iload_n hX dX4_worthIn_0 1 rfl (i := 1) rfl 1 rfl ?_
  refine z_iconst hX dX4_worthIn_1 2 rfl zki_0 ?_
  refine z_sipush hX dX4_worthIn_2 5 rfl zks_2000 ?_
  refine z_callSp hX cwX4_68 (w := .int (if zin k 2001 then 1 else 0 : Int32)) (met_X4_isInz hG k 2000 2001 (by decide)) dX4_worthIn_5 8 rfl rfl rfl (Nat.le_of_ble_eq_true rfl) (by decide) ⟨Nat.zero_le _, Nat.zero_le _⟩ ?_
  refine z_if_eqP hX (zin k 2001) dX4_worthIn_8 11 rfl (tgt := 19) (by decide) (fun c1 => ?_) (fun c1 => ?_)
  ·
    refine z_ldcw hX q1994 dX4_worthIn_19 22 rfl ?_
    exact z_iret hX hQ (Nat.zero_le _) (Nat.zero_le _) rfl dX4_worthIn_22 ⟨(by first | (simp only [if_neg c1] <;> rfl; done) | grind), (by first | (simpa only [if_neg c1, me_sold, me_sells, me_fallen, me_willFall, me_coins, me_extraOf, me_extraCap, me_extraShock, me_buyerOf, me_buys, me_part, me_forced] using hM) | (simpa only [if_neg c1, me2_sold, me2_sells, me2_fallen, me2_willFall, me2_coins, me2_extraOf, me2_extraCap, me2_extraShock, me2_buyerOf, me2_buys, me2_part, me2_forced, mg_sells_sold, mg_fallen_sold, mg_fallen_sells, mg_willFall_sold, mg_willFall_sells, mg_willFall_fallen, mg_coins_sold, mg_coins_sells, mg_coins_fallen, mg_coins_willFall, mg_extraOf_sold, mg_extraOf_sells, mg_extraOf_fallen, mg_extraOf_willFall, mg_extraOf_coins, mg_extraCap_sold, mg_extraCap_sells, mg_extraCap_fallen, mg_extraCap_willFall, mg_extraCap_coins, mg_extraCap_extraOf, mg_extraShock_sold, mg_extraShock_sells, mg_extraShock_fallen, mg_extraShock_willFall, mg_extraShock_coins, mg_extraShock_extraOf, mg_extraShock_extraCap, mg_buyerOf_sold, mg_buyerOf_sells, mg_buyerOf_fallen, mg_buyerOf_willFall, mg_buyerOf_coins, mg_buyerOf_extraOf, mg_buyerOf_extraCap, mg_buyerOf_extraShock, mg_buys_sold, mg_buys_sells, mg_buys_fallen, mg_buys_willFall, mg_buys_coins, mg_buys_extraOf, mg_buys_extraCap, mg_buys_extraShock, mg_buys_buyerOf, mg_part_sold, mg_part_sells, mg_part_fallen, mg_part_willFall, mg_part_coins, mg_part_extraOf, mg_part_extraCap, mg_part_extraShock, mg_part_buyerOf, mg_part_buys, mg_forced_sold, mg_forced_sells, mg_forced_fallen, mg_forced_willFall, mg_forced_coins, mg_forced_extraOf, mg_forced_extraCap, mg_forced_extraShock, mg_forced_buyerOf, mg_forced_buys, mg_forced_part] using hM))⟩
  ·
    have e_k := zin_eq c1
    have l_k := zin_lt c1
    refine z_eqL (L' := [(0, .ref o), (1, .int (nI k.toNatClampNeg)), (2, .int house)]) (st' := []) (by rw [← e_k]) (by first | rfl | rw [← e_k]) ?_
    refine z_aload_n hX dX4_worthIn_11 12 rfl (i := 0) rfl 0 rfl ?_
    refine z_iload_n hX dX4_worthIn_12 13 rfl (i := 2) rfl 2 rfl ?_
    refine z_callVp hX cwX4_237 (w := .int (if zin house H then 1 else 0 : Int32)) (met_X4_isHouse hG hM.1 hN house) hM.1.o rfl rfl dX4_worthIn_13 16 rfl rfl rfl (Nat.le_of_ble_eq_true rfl) (by decide) ⟨Nat.zero_le _, Nat.zero_le _⟩ ?_
    refine z_if_neP hX (zin house H) dX4_worthIn_16 19 rfl (tgt := 23) (by decide) (fun c2 => ?_) (fun c2 => ?_)
    ·
      have e_house := zin_eq c2
      have l_house := zin_lt c2
      refine z_eqL (L' := [(0, .ref o), (1, .int (nI k.toNatClampNeg)), (2, .int (nI house.toNatClampNeg))]) (st' := []) (by rw [← e_house]) (by first | rfl | rw [← e_house]) ?_
      refine z_aload_n hX dX4_worthIn_23 24 rfl (i := 0) rfl 0 rfl ?_
      refine z_iload_n hX dX4_worthIn_24 25 rfl (i := 1) rfl 1 rfl ?_
      refine z_callVv hX cwX4_274 (met_X4_goesTo hG hM.1 hN k.toNatClampNeg (by omega)) hM.1.o rfl rfl dX4_worthIn_25 28 rfl rfl rfl (Nat.le_of_ble_eq_true rfl) (by decide) ⟨Nat.zero_le _, Nat.zero_le _⟩ (fun G hhM => ?_)
      have hM := zMs.tr hM hhM
      have hM : zMs g G0 G o (ms_forced (ms_part (ms_buys (ms_buyerOf (ms_extraShock (ms_extraCap (ms_extraOf (ms_coins (ms_willFall (ms_fallen (ms_sells (ms_sold M (x4_goesTo_sold M (mt_sold M) (mt_coins M) A H K k.toNatClampNeg)) (x4_goesTo_sells M (mt_sold M) (mt_coins M) A H K k.toNatClampNeg)) (x4_goesTo_fallen M (mt_sold M) (mt_coins M) A H K k.toNatClampNeg)) (x4_goesTo_willFall M (mt_sold M) (mt_coins M) A H K k.toNatClampNeg)) (x4_goesTo_coins (mt_coins M) k.toNatClampNeg)) (x4_goesTo_extraOf k.toNatClampNeg)) (x4_goesTo_extraCap k.toNatClampNeg)) (x4_goesTo_extraShock k.toNatClampNeg)) (x4_goesTo_buyerOf k.toNatClampNeg)) (x4_goesTo_buys k.toNatClampNeg)) (x4_goesTo_part k.toNatClampNeg)) (x4_goesTo_forced k.toNatClampNeg)) := hM
      refine z_aload_n hX dX4_worthIn_28 29 rfl (i := 0) rfl 0 rfl ?_
      refine z_iload_n hX dX4_worthIn_29 30 rfl (i := 2) rfl 2 rfl ?_
      refine z_callVq hX cwX4_187 (w := .int (x4_worthNow (mt_now M) (x4_goesTo_sold M (mt_sold M) (mt_coins M) A H K k.toNatClampNeg) (x4_goesTo_fallen M (mt_sold M) (mt_coins M) A H K k.toNatClampNeg) (x4_goesTo_coins (mt_coins M) k.toNatClampNeg) (x4_goesTo_extraOf k.toNatClampNeg) (x4_goesTo_extraShock k.toNatClampNeg) (x4_goesTo_buyerOf k.toNatClampNeg) (x4_goesTo_buys k.toNatClampNeg) (x4_goesTo_part k.toNatClampNeg) A H K house.toNatClampNeg)) (met_X4_worthNow hG hM.1 (zWf_eq ((mg_now_forced _ _).trans ((mg_now_part _ _).trans ((mg_now_buys _ _).trans ((mg_now_buyerOf _ _).trans ((mg_now_extraShock _ _).trans ((mg_now_extraCap _ _).trans ((mg_now_extraOf _ _).trans ((mg_now_coins _ _).trans ((mg_now_willFall _ _).trans ((mg_now_fallen _ _).trans ((mg_now_sells _ _).trans (mg_now_sold _ _)))))))))))) hN) house.toNatClampNeg (by omega) (by first | assumption | omega)) (by simp only [mg_now_sold, mg_now_sells, mg_now_fallen, mg_now_willFall, mg_now_coins, mg_now_extraOf, mg_now_extraCap, mg_now_extraShock, mg_now_buyerOf, mg_now_buys, mg_now_part, mg_now_forced, mgs_sold, mg_sold_sells, mg_sold_fallen, mg_sold_willFall, mg_sold_coins, mg_sold_extraOf, mg_sold_extraCap, mg_sold_extraShock, mg_sold_buyerOf, mg_sold_buys, mg_sold_part, mg_sold_forced, mg_fallen_sold, mg_fallen_sells, mgs_fallen, mg_fallen_willFall, mg_fallen_coins, mg_fallen_extraOf, mg_fallen_extraCap, mg_fallen_extraShock, mg_fallen_buyerOf, mg_fallen_buys, mg_fallen_part, mg_fallen_forced, mg_coins_sold, mg_coins_sells, mg_coins_fallen, mg_coins_willFall, mgs_coins, mg_coins_extraOf, mg_coins_extraCap, mg_coins_extraShock, mg_coins_buyerOf, mg_coins_buys, mg_coins_part, mg_coins_forced, mg_extraOf_sold, mg_extraOf_sells, mg_extraOf_fallen, mg_extraOf_willFall, mg_extraOf_coins, mgs_extraOf, mg_extraOf_extraCap, mg_extraOf_extraShock, mg_extraOf_buyerOf, mg_extraOf_buys, mg_extraOf_part, mg_extraOf_forced, mg_extraShock_sold, mg_extraShock_sells, mg_extraShock_fallen, mg_extraShock_willFall, mg_extraShock_coins, mg_extraShock_extraOf, mg_extraShock_extraCap, mgs_extraShock, mg_extraShock_buyerOf, mg_extraShock_buys, mg_extraShock_part, mg_extraShock_forced, mg_buyerOf_sold, mg_buyerOf_sells, mg_buyerOf_fallen, mg_buyerOf_willFall, mg_buyerOf_coins, mg_buyerOf_extraOf, mg_buyerOf_extraCap, mg_buyerOf_extraShock, mgs_buyerOf, mg_buyerOf_buys, mg_buyerOf_part, mg_buyerOf_forced, mg_buys_sold, mg_buys_sells, mg_buys_fallen, mg_buys_willFall, mg_buys_coins, mg_buys_extraOf, mg_buys_extraCap, mg_buys_extraShock, mg_buys_buyerOf, mgs_buys, mg_buys_part, mg_buys_forced, mg_part_sold, mg_part_sells, mg_part_fallen, mg_part_willFall, mg_part_coins, mg_part_extraOf, mg_part_extraCap, mg_part_extraShock, mg_part_buyerOf, mg_part_buys, mgs_part, mg_part_forced]) hM.1.o rfl rfl dX4_worthIn_30 33 rfl rfl rfl (Nat.le_of_ble_eq_true rfl) (by decide) ⟨Nat.zero_le _, Nat.zero_le _⟩ ?_
      exact z_iret hX hQ (Nat.zero_le _) (Nat.zero_le _) rfl dX4_worthIn_33 ⟨(by first | (simp only [if_pos c1, if_pos c2] <;> rfl; done) | grind), (by first | (simpa only [if_pos c1, if_pos c2, me_sold, me_sells, me_fallen, me_willFall, me_coins, me_extraOf, me_extraCap, me_extraShock, me_buyerOf, me_buys, me_part, me_forced] using hM) | (simpa only [if_pos c1, if_pos c2, me2_sold, me2_sells, me2_fallen, me2_willFall, me2_coins, me2_extraOf, me2_extraCap, me2_extraShock, me2_buyerOf, me2_buys, me2_part, me2_forced, mg_sells_sold, mg_fallen_sold, mg_fallen_sells, mg_willFall_sold, mg_willFall_sells, mg_willFall_fallen, mg_coins_sold, mg_coins_sells, mg_coins_fallen, mg_coins_willFall, mg_extraOf_sold, mg_extraOf_sells, mg_extraOf_fallen, mg_extraOf_willFall, mg_extraOf_coins, mg_extraCap_sold, mg_extraCap_sells, mg_extraCap_fallen, mg_extraCap_willFall, mg_extraCap_coins, mg_extraCap_extraOf, mg_extraShock_sold, mg_extraShock_sells, mg_extraShock_fallen, mg_extraShock_willFall, mg_extraShock_coins, mg_extraShock_extraOf, mg_extraShock_extraCap, mg_buyerOf_sold, mg_buyerOf_sells, mg_buyerOf_fallen, mg_buyerOf_willFall, mg_buyerOf_coins, mg_buyerOf_extraOf, mg_buyerOf_extraCap, mg_buyerOf_extraShock, mg_buys_sold, mg_buys_sells, mg_buys_fallen, mg_buys_willFall, mg_buys_coins, mg_buys_extraOf, mg_buys_extraCap, mg_buys_extraShock, mg_buys_buyerOf, mg_part_sold, mg_part_sells, mg_part_fallen, mg_part_willFall, mg_part_coins, mg_part_extraOf, mg_part_extraCap, mg_part_extraShock, mg_part_buyerOf, mg_part_buys, mg_forced_sold, mg_forced_sells, mg_forced_fallen, mg_forced_willFall, mg_forced_coins, mg_forced_extraOf, mg_forced_extraCap, mg_forced_extraShock, mg_forced_buyerOf, mg_forced_buys, mg_forced_part] using hM))⟩
    ·
      refine z_ldcw hX q1994 dX4_worthIn_19 22 rfl ?_
      exact z_iret hX hQ (Nat.zero_le _) (Nat.zero_le _) rfl dX4_worthIn_22 ⟨(by first | (simp only [if_pos c1, if_neg c2] <;> rfl; done) | grind), (by first | (simpa only [if_pos c1, if_neg c2, me_sold, me_sells, me_fallen, me_willFall, me_coins, me_extraOf, me_extraCap, me_extraShock, me_buyerOf, me_buys, me_part, me_forced] using hM) | (simpa only [if_pos c1, if_neg c2, me2_sold, me2_sells, me2_fallen, me2_willFall, me2_coins, me2_extraOf, me2_extraCap, me2_extraShock, me2_buyerOf, me2_buys, me2_part, me2_forced, mg_sells_sold, mg_fallen_sold, mg_fallen_sells, mg_willFall_sold, mg_willFall_sells, mg_willFall_fallen, mg_coins_sold, mg_coins_sells, mg_coins_fallen, mg_coins_willFall, mg_extraOf_sold, mg_extraOf_sells, mg_extraOf_fallen, mg_extraOf_willFall, mg_extraOf_coins, mg_extraCap_sold, mg_extraCap_sells, mg_extraCap_fallen, mg_extraCap_willFall, mg_extraCap_coins, mg_extraCap_extraOf, mg_extraShock_sold, mg_extraShock_sells, mg_extraShock_fallen, mg_extraShock_willFall, mg_extraShock_coins, mg_extraShock_extraOf, mg_extraShock_extraCap, mg_buyerOf_sold, mg_buyerOf_sells, mg_buyerOf_fallen, mg_buyerOf_willFall, mg_buyerOf_coins, mg_buyerOf_extraOf, mg_buyerOf_extraCap, mg_buyerOf_extraShock, mg_buys_sold, mg_buys_sells, mg_buys_fallen, mg_buys_willFall, mg_buys_coins, mg_buys_extraOf, mg_buys_extraCap, mg_buys_extraShock, mg_buys_buyerOf, mg_part_sold, mg_part_sells, mg_part_fallen, mg_part_willFall, mg_part_coins, mg_part_extraOf, mg_part_extraCap, mg_part_extraShock, mg_part_buyerOf, mg_part_buys, mg_forced_sold, mg_forced_sells, mg_forced_fallen, mg_forced_willFall, mg_forced_coins, mg_forced_extraOf, mg_forced_extraCap, mg_forced_extraShock, mg_forced_buyerOf, mg_forced_buys, mg_forced_part] using hM))⟩
