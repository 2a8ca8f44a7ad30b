set_option maxRecDepth 100000
def gV (A H : Nat) (K : Nat → Nat) (M : MT) : Int32 := x4_goesOn (mt_now M) (mt_sold M) (mt_sells M) (mt_fallen M) (mt_coins M) (mt_extraOf M) (mt_extraCap M) (mt_extraShock M) (mt_buyerOf M) (mt_buys M) (mt_part M) (mt_forced M) A H K
def gM (A H : Nat) (K : Nat → Nat) (M : MT) : MT := ms_willFall (ms_fallen (ms_sells (ms_sold M (x4_goesOn_sold (mt_now M) (mt_sold M) (mt_sells M) (mt_fallen M) (mt_coins M) (mt_extraOf M) (mt_extraCap M) (mt_extraShock M) (mt_buyerOf M) (mt_buys M) (mt_part M) (mt_forced M) A H K)) (x4_goesOn_sells (mt_now M) (mt_sold M) (mt_sells M) (mt_fallen M) (mt_coins M) (mt_extraOf M) (mt_extraCap M) (mt_extraShock M) (mt_buyerOf M) (mt_buys M) (mt_part M) (mt_forced M) A H K)) (x4_goesOn_fallen (mt_now M) (mt_sold M) (mt_sells M) (mt_fallen M) (mt_coins M) (mt_extraOf M) (mt_extraShock M) (mt_buyerOf M) (mt_buys M) (mt_part M) (mt_forced M) A H K)) (x4_goesOn_willFall (mt_now M) (mt_sold M) (mt_sells M) (mt_fallen M) (mt_coins M) (mt_extraOf M) (mt_extraShock M) (mt_buyerOf M) (mt_buys M) (mt_part M) (mt_forced M) A H K)
theorem met_goesOn {g : Zg} (hG : zG g) {G0 : zHG} {o : Nat} {M : MT} (hM : zMo g G0 o M) {A H : Nat} {K : Nat → Nat} (hN : zWf (mt_now M) A H K) : ZM g yX4_goesOn cX4_goesOn 4 (some .boolean) 6 0 0 [.ref o] G0 (fun r G' => r = some (.int (gV A H K M)) ∧ zMs g G0 G' o (gM A H K M)) := met_X4_goesOn hG hM hN
def x4_it (A H : Nat) (K : Nat → Nat) (M : MT) (i : Nat) : MT := zfold i (fun _ => gM A H K) M
theorem x4_it_s (A H : Nat) (K : Nat → Nat) (M : MT) (i : Nat) : x4_it A H K M (i + 1) = gM A H K (x4_it A H K M i) := rfl
def zConv (A H : Nat) (K : Nat → Nat) (M : MT) : Prop := ∃ n : Nat, (∀ i, i < n → ¬ gV A H K (x4_it A H K M i) = 0) ∧ gV A H K (x4_it A H K M n) = 0
noncomputable def zN (A H : Nat) (K : Nat → Nat) (M : MT) : Nat := Classical.epsilon (fun n : Nat => (∀ i, i < n → ¬ gV A H K (x4_it A H K M i) = 0) ∧ gV A H K (x4_it A H K M n) = 0)
theorem zN_spec {A H : Nat} {K : Nat → Nat} {M : MT} (h : zConv A H K M) : (∀ i, i < zN A H K M → ¬ gV A H K (x4_it A H K M i) = 0) ∧ gV A H K (x4_it A H K M (zN A H K M)) = 0 := Classical.epsilon_spec h
noncomputable def zSet (A H : Nat) (K : Nat → Nat) (M : MT) : MT := x4_it A H K M (zN A H K M + 1)
theorem gM_thrown (A H : Nat) (K : Nat → Nat) (M : MT) : mt_thrown (gM A H K M) = mt_thrown M := by simp only [gM, mg_thrown_sold, mg_thrown_sells, mg_thrown_fallen, mg_thrown_willFall]
theorem it_thrown (A H : Nat) (K : Nat → Nat) (M : MT) (i : Nat) : mt_thrown (x4_it A H K M i) = mt_thrown M := by
  induction i with
  | zero => rfl
  | succ i ih => rw [x4_it_s, gM_thrown, ih]
theorem gM_now (A H : Nat) (K : Nat → Nat) (M : MT) : mt_now (gM A H K M) = mt_now M := by simp only [gM, mg_now_sold, mg_now_sells, mg_now_fallen, mg_now_willFall]
theorem it_now (A H : Nat) (K : Nat → Nat) (M : MT) (i : Nat) : mt_now (x4_it A H K M i) = mt_now M := by
  induction i with
  | zero => rfl
  | succ i ih => rw [x4_it_s, gM_now, ih]
theorem gM_aside (A H : Nat) (K : Nat → Nat) (M : MT) : mt_aside (gM A H K M) = mt_aside M := by simp only [gM, mg_aside_sold, mg_aside_sells, mg_aside_fallen, mg_aside_willFall]
theorem it_aside (A H : Nat) (K : Nat → Nat) (M : MT) (i : Nat) : mt_aside (x4_it A H K M i) = mt_aside M := by
  induction i with
  | zero => rfl
  | succ i ih => rw [x4_it_s, gM_aside, ih]
theorem gM_undos (A H : Nat) (K : Nat → Nat) (M : MT) : mt_undos (gM A H K M) = mt_undos M := by simp only [gM, mg_undos_sold, mg_undos_sells, mg_undos_fallen, mg_undos_willFall]
theorem it_undos (A H : Nat) (K : Nat → Nat) (M : MT) (i : Nat) : mt_undos (x4_it A H K M i) = mt_undos M := by
  induction i with
  | zero => rfl
  | succ i ih => rw [x4_it_s, gM_undos, ih]
theorem gM_undoMany (A H : Nat) (K : Nat → Nat) (M : MT) : mt_undoMany (gM A H K M) = mt_undoMany M := by simp only [gM, mg_undoMany_sold, mg_undoMany_sells, mg_undoMany_fallen, mg_undoMany_willFall]
theorem it_undoMany (A H : Nat) (K : Nat → Nat) (M : MT) (i : Nat) : mt_undoMany (x4_it A H K M i) = mt_undoMany M := by
  induction i with
  | zero => rfl
  | succ i ih => rw [x4_it_s, gM_undoMany, ih]
theorem gM_tape (A H : Nat) (K : Nat → Nat) (M : MT) : mt_tape (gM A H K M) = mt_tape M := by simp only [gM, mg_tape_sold, mg_tape_sells, mg_tape_fallen, mg_tape_willFall]
theorem it_tape (A H : Nat) (K : Nat → Nat) (M : MT) (i : Nat) : mt_tape (x4_it A H K M i) = mt_tape M := by
  induction i with
  | zero => rfl
  | succ i ih => rw [x4_it_s, gM_tape, ih]
theorem gM_taped (A H : Nat) (K : Nat → Nat) (M : MT) : mt_taped (gM A H K M) = mt_taped M := by simp only [gM, mg_taped_sold, mg_taped_sells, mg_taped_fallen, mg_taped_willFall]
theorem it_taped (A H : Nat) (K : Nat → Nat) (M : MT) (i : Nat) : mt_taped (x4_it A H K M i) = mt_taped M := by
  induction i with
  | zero => rfl
  | succ i ih => rw [x4_it_s, gM_taped, ih]
theorem gM_size (A H : Nat) (K : Nat → Nat) (M : MT) : mt_size (gM A H K M) = mt_size M := by simp only [gM, mg_size_sold, mg_size_sells, mg_size_fallen, mg_size_willFall]
theorem it_size (A H : Nat) (K : Nat → Nat) (M : MT) (i : Nat) : mt_size (x4_it A H K M i) = mt_size M := by
  induction i with
  | zero => rfl
  | succ i ih => rw [x4_it_s, gM_size, ih]
theorem gM_at (A H : Nat) (K : Nat → Nat) (M : MT) : mt_at (gM A H K M) = mt_at M := by simp only [gM, mg_at_sold, mg_at_sells, mg_at_fallen, mg_at_willFall]
theorem it_at (A H : Nat) (K : Nat → Nat) (M : MT) (i : Nat) : mt_at (x4_it A H K M i) = mt_at M := by
  induction i with
  | zero => rfl
  | succ i ih => rw [x4_it_s, gM_at, ih]
theorem gM_token (A H : Nat) (K : Nat → Nat) (M : MT) : mt_token (gM A H K M) = mt_token M := by simp only [gM, mg_token_sold, mg_token_sells, mg_token_fallen, mg_token_willFall]
theorem it_token (A H : Nat) (K : Nat → Nat) (M : MT) (i : Nat) : mt_token (x4_it A H K M i) = mt_token M := by
  induction i with
  | zero => rfl
  | succ i ih => rw [x4_it_s, gM_token, ih]
theorem gM_from (A H : Nat) (K : Nat → Nat) (M : MT) : mt_from (gM A H K M) = mt_from M := by simp only [gM, mg_from_sold, mg_from_sells, mg_from_fallen, mg_from_willFall]
theorem it_from (A H : Nat) (K : Nat → Nat) (M : MT) (i : Nat) : mt_from (x4_it A H K M i) = mt_from M := by
  induction i with
  | zero => rfl
  | succ i ih => rw [x4_it_s, gM_from, ih]
theorem gM_value (A H : Nat) (K : Nat → Nat) (M : MT) : mt_value (gM A H K M) = mt_value M := by simp only [gM, mg_value_sold, mg_value_sells, mg_value_fallen, mg_value_willFall]
theorem it_value (A H : Nat) (K : Nat → Nat) (M : MT) (i : Nat) : mt_value (x4_it A H K M i) = mt_value M := by
  induction i with
  | zero => rfl
  | succ i ih => rw [x4_it_s, gM_value, ih]
theorem gM_fault (A H : Nat) (K : Nat → Nat) (M : MT) : mt_fault (gM A H K M) = mt_fault M := by simp only [gM, mg_fault_sold, mg_fault_sells, mg_fault_fallen, mg_fault_willFall]
theorem it_fault (A H : Nat) (K : Nat → Nat) (M : MT) (i : Nat) : mt_fault (x4_it A H K M i) = mt_fault M := by
  induction i with
  | zero => rfl
  | succ i ih => rw [x4_it_s, gM_fault, ih]
theorem gM_rounds (A H : Nat) (K : Nat → Nat) (M : MT) : mt_rounds (gM A H K M) = mt_rounds M := by simp only [gM, mg_rounds_sold, mg_rounds_sells, mg_rounds_fallen, mg_rounds_willFall]
theorem it_rounds (A H : Nat) (K : Nat → Nat) (M : MT) (i : Nat) : mt_rounds (x4_it A H K M i) = mt_rounds M := by
  induction i with
  | zero => rfl
  | succ i ih => rw [x4_it_s, gM_rounds, ih]
theorem gM_coins (A H : Nat) (K : Nat → Nat) (M : MT) : mt_coins (gM A H K M) = mt_coins M := by simp only [gM, mg_coins_sold, mg_coins_sells, mg_coins_fallen, mg_coins_willFall]
theorem it_coins (A H : Nat) (K : Nat → Nat) (M : MT) (i : Nat) : mt_coins (x4_it A H K M i) = mt_coins M := by
  induction i with
  | zero => rfl
  | succ i ih => rw [x4_it_s, gM_coins, ih]
theorem gM_extraOf (A H : Nat) (K : Nat → Nat) (M : MT) : mt_extraOf (gM A H K M) = mt_extraOf M := by simp only [gM, mg_extraOf_sold, mg_extraOf_sells, mg_extraOf_fallen, mg_extraOf_willFall]
theorem it_extraOf (A H : Nat) (K : Nat → Nat) (M : MT) (i : Nat) : mt_extraOf (x4_it A H K M i) = mt_extraOf M := by
  induction i with
  | zero => rfl
  | succ i ih => rw [x4_it_s, gM_extraOf, ih]
theorem gM_extraCap (A H : Nat) (K : Nat → Nat) (M : MT) : mt_extraCap (gM A H K M) = mt_extraCap M := by simp only [gM, mg_extraCap_sold, mg_extraCap_sells, mg_extraCap_fallen, mg_extraCap_willFall]
theorem it_extraCap (A H : Nat) (K : Nat → Nat) (M : MT) (i : Nat) : mt_extraCap (x4_it A H K M i) = mt_extraCap M := by
  induction i with
  | zero => rfl
  | succ i ih => rw [x4_it_s, gM_extraCap, ih]
theorem gM_extraShock (A H : Nat) (K : Nat → Nat) (M : MT) : mt_extraShock (gM A H K M) = mt_extraShock M := by simp only [gM, mg_extraShock_sold, mg_extraShock_sells, mg_extraShock_fallen, mg_extraShock_willFall]
theorem it_extraShock (A H : Nat) (K : Nat → Nat) (M : MT) (i : Nat) : mt_extraShock (x4_it A H K M i) = mt_extraShock M := by
  induction i with
  | zero => rfl
  | succ i ih => rw [x4_it_s, gM_extraShock, ih]
theorem gM_buyerOf (A H : Nat) (K : Nat → Nat) (M : MT) : mt_buyerOf (gM A H K M) = mt_buyerOf M := by simp only [gM, mg_buyerOf_sold, mg_buyerOf_sells, mg_buyerOf_fallen, mg_buyerOf_willFall]
theorem it_buyerOf (A H : Nat) (K : Nat → Nat) (M : MT) (i : Nat) : mt_buyerOf (x4_it A H K M i) = mt_buyerOf M := by
  induction i with
  | zero => rfl
  | succ i ih => rw [x4_it_s, gM_buyerOf, ih]
theorem gM_buys (A H : Nat) (K : Nat → Nat) (M : MT) : mt_buys (gM A H K M) = mt_buys M := by simp only [gM, mg_buys_sold, mg_buys_sells, mg_buys_fallen, mg_buys_willFall]
theorem it_buys (A H : Nat) (K : Nat → Nat) (M : MT) (i : Nat) : mt_buys (x4_it A H K M i) = mt_buys M := by
  induction i with
  | zero => rfl
  | succ i ih => rw [x4_it_s, gM_buys, ih]
theorem gM_part (A H : Nat) (K : Nat → Nat) (M : MT) : mt_part (gM A H K M) = mt_part M := by simp only [gM, mg_part_sold, mg_part_sells, mg_part_fallen, mg_part_willFall]
theorem it_part (A H : Nat) (K : Nat → Nat) (M : MT) (i : Nat) : mt_part (x4_it A H K M i) = mt_part M := by
  induction i with
  | zero => rfl
  | succ i ih => rw [x4_it_s, gM_part, ih]
theorem gM_forced (A H : Nat) (K : Nat → Nat) (M : MT) : mt_forced (gM A H K M) = mt_forced M := by simp only [gM, mg_forced_sold, mg_forced_sells, mg_forced_fallen, mg_forced_willFall]
theorem it_forced (A H : Nat) (K : Nat → Nat) (M : MT) (i : Nat) : mt_forced (x4_it A H K M i) = mt_forced M := by
  induction i with
  | zero => rfl
  | succ i ih => rw [x4_it_s, gM_forced, ih]
theorem gM_left (A H : Nat) (K : Nat → Nat) (M : MT) : mt_left (gM A H K M) = mt_left M := by simp only [gM, mg_left_sold, mg_left_sells, mg_left_fallen, mg_left_willFall]
theorem it_left (A H : Nat) (K : Nat → Nat) (M : MT) (i : Nat) : mt_left (x4_it A H K M i) = mt_left M := by
  induction i with
  | zero => rfl
  | succ i ih => rw [x4_it_s, gM_left, ih]
theorem gM_prices (A H : Nat) (K : Nat → Nat) (M : MT) : mt_prices (gM A H K M) = mt_prices M := by simp only [gM, mg_prices_sold, mg_prices_sells, mg_prices_fallen, mg_prices_willFall]
theorem it_prices (A H : Nat) (K : Nat → Nat) (M : MT) (i : Nat) : mt_prices (x4_it A H K M i) = mt_prices M := by
  induction i with
  | zero => rfl
  | succ i ih => rw [x4_it_s, gM_prices, ih]
theorem gM_musts (A H : Nat) (K : Nat → Nat) (M : MT) : mt_musts (gM A H K M) = mt_musts M := by simp only [gM, mg_musts_sold, mg_musts_sells, mg_musts_fallen, mg_musts_willFall]
theorem it_musts (A H : Nat) (K : Nat → Nat) (M : MT) (i : Nat) : mt_musts (x4_it A H K M i) = mt_musts M := by
  induction i with
  | zero => rfl
  | succ i ih => rw [x4_it_s, gM_musts, ih]
theorem gM_fell (A H : Nat) (K : Nat → Nat) (M : MT) : mt_fell (gM A H K M) = mt_fell M := by simp only [gM, mg_fell_sold, mg_fell_sells, mg_fell_fallen, mg_fell_willFall]
theorem it_fell (A H : Nat) (K : Nat → Nat) (M : MT) (i : Nat) : mt_fell (x4_it A H K M i) = mt_fell M := by
  induction i with
  | zero => rfl
  | succ i ih => rw [x4_it_s, gM_fell, ih]
theorem gM_leastLost (A H : Nat) (K : Nat → Nat) (M : MT) : mt_leastLost (gM A H K M) = mt_leastLost M := by simp only [gM, mg_leastLost_sold, mg_leastLost_sells, mg_leastLost_fallen, mg_leastLost_willFall]
theorem it_leastLost (A H : Nat) (K : Nat → Nat) (M : MT) (i : Nat) : mt_leastLost (x4_it A H K M i) = mt_leastLost M := by
  induction i with
  | zero => rfl
  | succ i ih => rw [x4_it_s, gM_leastLost, ih]
theorem gM_gifts (A H : Nat) (K : Nat → Nat) (M : MT) : mt_gifts (gM A H K M) = mt_gifts M := by simp only [gM, mg_gifts_sold, mg_gifts_sells, mg_gifts_fallen, mg_gifts_willFall]
theorem it_gifts (A H : Nat) (K : Nat → Nat) (M : MT) (i : Nat) : mt_gifts (x4_it A H K M i) = mt_gifts M := by
  induction i with
  | zero => rfl
  | succ i ih => rw [x4_it_s, gM_gifts, ih]
theorem gM_bestGifts (A H : Nat) (K : Nat → Nat) (M : MT) : mt_bestGifts (gM A H K M) = mt_bestGifts M := by simp only [gM, mg_bestGifts_sold, mg_bestGifts_sells, mg_bestGifts_fallen, mg_bestGifts_willFall]
theorem it_bestGifts (A H : Nat) (K : Nat → Nat) (M : MT) (i : Nat) : mt_bestGifts (x4_it A H K M i) = mt_bestGifts M := by
  induction i with
  | zero => rfl
  | succ i ih => rw [x4_it_s, gM_bestGifts, ih]
theorem gM_spelt (A H : Nat) (K : Nat → Nat) (M : MT) : mt_spelt (gM A H K M) = mt_spelt M := by simp only [gM, mg_spelt_sold, mg_spelt_sells, mg_spelt_fallen, mg_spelt_willFall]
theorem it_spelt (A H : Nat) (K : Nat → Nat) (M : MT) (i : Nat) : mt_spelt (x4_it A H K M i) = mt_spelt M := by
  induction i with
  | zero => rfl
  | succ i ih => rw [x4_it_s, gM_spelt, ih]
theorem gM_speltMany (A H : Nat) (K : Nat → Nat) (M : MT) : mt_speltMany (gM A H K M) = mt_speltMany M := by simp only [gM, mg_speltMany_sold, mg_speltMany_sells, mg_speltMany_fallen, mg_speltMany_willFall]
theorem it_speltMany (A H : Nat) (K : Nat → Nat) (M : MT) (i : Nat) : mt_speltMany (x4_it A H K M i) = mt_speltMany M := by
  induction i with
  | zero => rfl
  | succ i ih => rw [x4_it_s, gM_speltMany, ih]
theorem gV_rounds (A H : Nat) (K : Nat → Nat) (M : MT) (x : Int32) : gV A H K (ms_rounds M x) = gV A H K M := by simp only [gV, mg_now_rounds, mg_sold_rounds, mg_sells_rounds, mg_fallen_rounds, mg_coins_rounds, mg_extraOf_rounds, mg_extraCap_rounds, mg_extraShock_rounds, mg_buyerOf_rounds, mg_buys_rounds, mg_part_rounds, mg_forced_rounds, mg_willFall_rounds]
theorem gMr (A H : Nat) (K : Nat → Nat) (M : MT) (x : Int32) : gM A H K (ms_rounds M x) = ms_rounds (gM A H K M) x := by simp only [gM, mg_now_rounds, mg_sold_rounds, mg_sells_rounds, mg_fallen_rounds, mg_coins_rounds, mg_extraOf_rounds, mg_extraCap_rounds, mg_extraShock_rounds, mg_buyerOf_rounds, mg_buys_rounds, mg_part_rounds, mg_forced_rounds, mg_willFall_rounds, mc_sold_rounds, mc_sells_rounds, mc_fallen_rounds, mc_willFall_rounds]
theorem it_eq (A H : Nat) (K : Nat → Nat) (M : MT) (i : Nat) : x4_it A H K M i = ms_willFall (ms_fallen (ms_sells (ms_sold M (mt_sold (x4_it A H K M i))) (mt_sells (x4_it A H K M i))) (mt_fallen (x4_it A H K M i))) (mt_willFall (x4_it A H K M i)) := by
  induction i with
  | zero => simp only [x4_it, zfold_0, me_sold, me_sells, me_fallen, me_willFall]
  | succ i ih =>
    have e : x4_it A H K M (i + 1) = gM A H K (x4_it A H K M i) := rfl
    have e2 : ∀ N : MT, gM A H K N = ms_willFall (ms_fallen (ms_sells (ms_sold N (mt_sold (gM A H K N))) (mt_sells (gM A H K N))) (mt_fallen (gM A H K N))) (mt_willFall (gM A H K N)) := fun N => by simp only [gM, mgs_sold, mgs_sells, mgs_fallen, mgs_willFall, mg_sold_sells, mg_sold_fallen, mg_sold_willFall, mg_sells_sold, mg_sells_fallen, mg_sells_willFall, mg_fallen_sold, mg_fallen_sells, mg_fallen_willFall, mg_willFall_sold, mg_willFall_sells, mg_willFall_fallen]
    rw [e, e2]
    generalize gM A H K (x4_it A H K M i) = Z
    rw [ih]
    generalize x4_it A H K M i = Y
    simp only [mgs_sold, mgs_sells, mgs_fallen, mgs_willFall, mg_sold_sells, mg_sold_fallen, mg_sold_willFall, mg_sells_sold, mg_sells_fallen, mg_sells_willFall, mg_fallen_sold, mg_fallen_sells, mg_fallen_willFall, mg_willFall_sold, mg_willFall_sells, mg_willFall_fallen, mm_sold, mm_sells, mm_fallen, mm_willFall, mc_sold_sells, mc_sold_fallen, mc_sold_willFall, mc_sells_fallen, mc_sells_willFall, mc_fallen_willFall]
set_option maxHeartbeats 4000000 in
theorem met_X4_settles {g : Zg} (hG : zG g) {G0 : zHG} {o : Nat} {M : MT} (hM : zMo g G0 o M) {A H : Nat} {K : Nat → Nat} (hN : zWf (mt_now M) A H K) (hc : zConv A H K M) : ZM g yX4_settles cX4_settles 1 none 7 0 0 [.ref o] G0 (fun r G' => r = none ∧ zMs g G0 G' o (ms_rounds (ms_willFall (ms_fallen (ms_sells (ms_sold M (mt_sold (zSet A H K M))) (mt_sells (zSet A H K M))) (mt_fallen (zSet A H K M))) (mt_willFall (zSet A H K M))) (nI (zN A H K M)))) := by
  refine ZM_mk hG (by decide) (Nat.le_of_ble_eq_true rfl) ?_
  intro X hX hname hQ
  obtain ⟨G, hGe⟩ : ∃ z, z = G0 := ⟨_, rfl⟩
  have hM : zMs g G0 G o M := by rw [hGe]; exact zMs.rf hM
  show ZW g X 0 0 G0 0 [(0, .ref o)] []
  rw [← hGe]
  have hQ2 : zMs g G0 = zMs g G0 := rfl
  obtain ⟨hn1, hn2⟩ := zN_spec hc
  have hfin : ms_rounds (x4_it A H K M (zN A H K M + 1)) (nI (zN A H K M)) = ms_rounds (ms_willFall (ms_fallen (ms_sells (ms_sold M (mt_sold (zSet A H K M))) (mt_sells (zSet A H K M))) (mt_fallen (zSet A H K M))) (mt_willFall (zSet A H K M))) (nI (zN A H K M)) := by rw [it_eq]; rfl
  rw [← hfin] at hQ
  generalize zN A H K M = n at hn1 hn2 hQ
  refine z_aload_n hX dX4_settles_0 1 rfl (i := 0) rfl 0 rfl ?_
  refine z_iconst hX dX4_settles_1 2 rfl zki_0 ?_
  refine m_put_rounds hX hM fX4_208 dX4_settles_2 5 rfl (fun G hM => ?_)
  have Lp : ∀ k j : Nat, j + k = n → ∀ G : zHG, zMs g G0 G o (ms_rounds (x4_it A H K M j) (nI j)) → ZW g X 0 0 G 5 [(0, .ref o)] [] := by
    intro k
    induction k with
    | zero =>
      intro j hj G hM
      rw [show j = n from by omega] at hM
      refine z_aload_n hX dX4_settles_5 6 rfl (i := 0) rfl 0 rfl ?_
      refine z_callVn hX cwX4_211 (w := .int 0) (met_goesOn hG hM.1 (zWf_eq ((mg_now_rounds _ _).trans (it_now A H K M n)) hN)) (by rw [gV_rounds, hn2]) hM.1.o rfl rfl dX4_settles_6 9 rfl rfl rfl (Nat.le_of_ble_eq_true rfl) (by decide) ⟨Nat.zero_le _, Nat.zero_le _⟩ (fun G hhM => ?_)
      have hM := zMs.tr hM hhM
      rw [gMr, ← x4_it_s] at hM
      refine z_if_eq hX dX4_settles_9 12 rfl (tgt := 25) (by decide) (fun c => ?_) (fun c => ?_)
      · exact z_vret hX hQ (Nat.zero_le _) (Nat.zero_le _) rfl dX4_settles_25 ⟨rfl, hM⟩
      · exact absurd rfl c
    | succ k ih =>
      intro j hj G hM
      refine z_aload_n hX dX4_settles_5 6 rfl (i := 0) rfl 0 rfl ?_
      refine z_callVm hX cwX4_211 (w := .int (gV A H K (ms_rounds (x4_it A H K M j) (nI j)))) (met_goesOn hG hM.1 (zWf_eq ((mg_now_rounds _ _).trans (it_now A H K M j)) hN)) hM.1.o rfl rfl dX4_settles_6 9 rfl rfl rfl (Nat.le_of_ble_eq_true rfl) (by decide) ⟨Nat.zero_le _, Nat.zero_le _⟩ (fun G hhM => ?_)
      have hM := zMs.tr hM hhM
      rw [gMr, ← x4_it_s] at hM
      refine z_if_eq hX dX4_settles_9 12 rfl (tgt := 25) (by decide) (fun c => ?_) (fun c => ?_)
      · exact absurd (by rw [gV_rounds] at c; exact c) (hn1 j (by omega))
      · refine z_aload_n hX dX4_settles_12 13 rfl (i := 0) rfl 0 rfl ?_
        refine z_dup hX dX4_settles_13 14 rfl rfl ?_
        refine m_get_rounds hX hM fX4_208 dX4_settles_14 17 rfl (w := nI j) (mgs_rounds _ _) ?_
        refine z_iconst hX dX4_settles_17 18 rfl zki_1 ?_
        refine z_iadd hX dX4_settles_18 19 rfl (w := nI (j + 1)) (nI_add j 1) ?_
        refine m_put_rounds hX hM fX4_208 dX4_settles_19 22 rfl (fun G hM => ?_)
        rw [mm_rounds] at hM
        refine z_goto hX dX4_settles_22 (tgt := 5) (by decide) ?_
        exact ih (j + 1) (by omega) G hM
  exact Lp n 0 (by omega) G hM
