set_option maxRecDepth 100000
def calmM (M : MT) : MT := ms_fallen (ms_sold M (x4_calm_sold (mt_sold M))) (x4_calm_fallen (mt_forced M))
def panicM (A H : Nat) (K : Nat → Nat) (M : MT) : MT := ms_fallen (ms_sold M (x4_panic_sold (mt_now M) (mt_sold M) (mt_extraOf M) (mt_extraCap M) A H K)) (x4_panic_fallen H)
noncomputable def setM (A H : Nat) (K : Nat → Nat) (M : MT) : MT := ms_rounds (ms_willFall (ms_fallen (ms_sells (ms_sold M (mt_sold (zSet A H K M))) (mt_sells (zSet A H K M))) (mt_fallen (zSet A H K M))) (mt_willFall (zSet A H K M))) (nI (zN A H K M))
noncomputable def zStd (A H : Nat) (K : Nat → Nat) (w : Nat) (M : MT) : MT := if w = 0 then calmM M else if w = 1 then setM A H K (calmM M) else if w = 2 then setM A H K (panicM A H K M) else panicM A H K M
def zStdOk (A H : Nat) (K : Nat → Nat) (w : Nat) (M : MT) : Prop := (w = 1 → zConv A H K (calmM M)) ∧ (w = 2 → zConv A H K (panicM A H K M))
theorem zStd_eq (A H : Nat) (K : Nat → Nat) (w : Nat) (M : MT) : zStd A H K w M = ms_rounds (ms_willFall (ms_fallen (ms_sells (ms_sold M (mt_sold (zStd A H K w M))) (mt_sells (zStd A H K w M))) (mt_fallen (zStd A H K w M))) (mt_willFall (zStd A H K w M))) (mt_rounds (zStd A H K w M)) := by
  have k0 : calmM M = ms_rounds (ms_willFall (ms_fallen (ms_sells (ms_sold M (mt_sold (calmM M))) (mt_sells (calmM M))) (mt_fallen (calmM M))) (mt_willFall (calmM M))) (mt_rounds (calmM M)) := by simp only [calmM, mgs_sold, mgs_sells, mgs_fallen, mgs_willFall, mgs_rounds, mg_sold_sells, mg_sold_fallen, mg_sold_willFall, mg_sold_rounds, mg_sells_sold, mg_sells_fallen, mg_sells_willFall, mg_sells_rounds, mg_fallen_sold, mg_fallen_sells, mg_fallen_willFall, mg_fallen_rounds, mg_willFall_sold, mg_willFall_sells, mg_willFall_fallen, mg_willFall_rounds, mg_rounds_sold, mg_rounds_sells, mg_rounds_fallen, mg_rounds_willFall, me2_sells, me2_willFall, me2_rounds]
  have k3 : panicM A H K M = ms_rounds (ms_willFall (ms_fallen (ms_sells (ms_sold M (mt_sold (panicM A H K M))) (mt_sells (panicM A H K M))) (mt_fallen (panicM A H K M))) (mt_willFall (panicM A H K M))) (mt_rounds (panicM A H K M)) := by simp only [panicM, mgs_sold, mgs_sells, mgs_fallen, mgs_willFall, mgs_rounds, mg_sold_sells, mg_sold_fallen, mg_sold_willFall, mg_sold_rounds, mg_sells_sold, mg_sells_fallen, mg_sells_willFall, mg_sells_rounds, mg_fallen_sold, mg_fallen_sells, mg_fallen_willFall, mg_fallen_rounds, mg_willFall_sold, mg_willFall_sells, mg_willFall_fallen, mg_willFall_rounds, mg_rounds_sold, mg_rounds_sells, mg_rounds_fallen, mg_rounds_willFall, me2_sells, me2_willFall, me2_rounds]
  have ks : ∀ N : MT, setM A H K N = ms_rounds (ms_willFall (ms_fallen (ms_sells (ms_sold N (mt_sold (setM A H K N))) (mt_sells (setM A H K N))) (mt_fallen (setM A H K N))) (mt_willFall (setM A H K N))) (mt_rounds (setM A H K N)) := fun N => by simp only [setM, mgs_sold, mgs_sells, mgs_fallen, mgs_willFall, mgs_rounds, mg_sold_sells, mg_sold_fallen, mg_sold_willFall, mg_sold_rounds, mg_sells_sold, mg_sells_fallen, mg_sells_willFall, mg_sells_rounds, mg_fallen_sold, mg_fallen_sells, mg_fallen_willFall, mg_fallen_rounds, mg_willFall_sold, mg_willFall_sells, mg_willFall_fallen, mg_willFall_rounds, mg_rounds_sold, mg_rounds_sells, mg_rounds_fallen, mg_rounds_willFall]
  have k1 : setM A H K (calmM M) = ms_rounds (ms_willFall (ms_fallen (ms_sells (ms_sold M (mt_sold (setM A H K (calmM M)))) (mt_sells (setM A H K (calmM M)))) (mt_fallen (setM A H K (calmM M)))) (mt_willFall (setM A H K (calmM M)))) (mt_rounds (setM A H K (calmM M))) := by
    rw [ks]; generalize setM A H K (calmM M) = Z; rw [k0]; simp only [mgs_sold, mgs_sells, mgs_fallen, mgs_willFall, mgs_rounds, mg_sold_sells, mg_sold_fallen, mg_sold_willFall, mg_sold_rounds, mg_sells_sold, mg_sells_fallen, mg_sells_willFall, mg_sells_rounds, mg_fallen_sold, mg_fallen_sells, mg_fallen_willFall, mg_fallen_rounds, mg_willFall_sold, mg_willFall_sells, mg_willFall_fallen, mg_willFall_rounds, mg_rounds_sold, mg_rounds_sells, mg_rounds_fallen, mg_rounds_willFall, mc_sold_sells, mc_sold_fallen, mc_sold_willFall, mc_sold_rounds, mc_sells_fallen, mc_sells_willFall, mc_sells_rounds, mc_fallen_willFall, mc_fallen_rounds, mc_willFall_rounds, mm_sold, mm_sells, mm_fallen, mm_willFall, mm_rounds, me_sold, me_sells, me_fallen, me_willFall, me_rounds]
  have k2 : setM A H K (panicM A H K M) = ms_rounds (ms_willFall (ms_fallen (ms_sells (ms_sold M (mt_sold (setM A H K (panicM A H K M)))) (mt_sells (setM A H K (panicM A H K M)))) (mt_fallen (setM A H K (panicM A H K M)))) (mt_willFall (setM A H K (panicM A H K M)))) (mt_rounds (setM A H K (panicM A H K M))) := by
    rw [ks]; generalize setM A H K (panicM A H K M) = Z; rw [k3]; simp only [mgs_sold, mgs_sells, mgs_fallen, mgs_willFall, mgs_rounds, mg_sold_sells, mg_sold_fallen, mg_sold_willFall, mg_sold_rounds, mg_sells_sold, mg_sells_fallen, mg_sells_willFall, mg_sells_rounds, mg_fallen_sold, mg_fallen_sells, mg_fallen_willFall, mg_fallen_rounds, mg_willFall_sold, mg_willFall_sells, mg_willFall_fallen, mg_willFall_rounds, mg_rounds_sold, mg_rounds_sells, mg_rounds_fallen, mg_rounds_willFall, mc_sold_sells, mc_sold_fallen, mc_sold_willFall, mc_sold_rounds, mc_sells_fallen, mc_sells_willFall, mc_sells_rounds, mc_fallen_willFall, mc_fallen_rounds, mc_willFall_rounds, mm_sold, mm_sells, mm_fallen, mm_willFall, mm_rounds, me_sold, me_sells, me_fallen, me_willFall, me_rounds]
  unfold zStd
  by_cases h0 : w = 0
  · rw [if_pos h0]; exact k0
  · rw [if_neg h0]
    by_cases h1 : w = 1
    · rw [if_pos h1]; exact k1
    · rw [if_neg h1]
      by_cases h2 : w = 2
      · rw [if_pos h2]; exact k2
      · rw [if_neg h2]; exact k3
set_option maxHeartbeats 4000000 in
theorem met_X4_stands_0 {g : Zg} (hG : zG g) {G0 : zHG} {o : Nat} {M : MT} (hM : zMo g G0 o M) {A H : Nat} {K : Nat → Nat} (hN : zWf (mt_now M) A H K)  : ZM g yX4_stands cX4_stands 2 none 8 0 0 [.ref o, .int (nI 0)] G0 (fun r G' => r = none ∧ zMs g G0 G' o (calmM M)) := by
  have hN2 := hN.2.1
  have hN4 := hN.2.2.2.1
  refine ZM_mk hG (by decide) (Nat.le_of_ble_eq_true rfl) ?_
  intro X hX hname hQ
  obtain ⟨G, hGe⟩ : ∃ z, z = G0 := ⟨_, rfl⟩
  have hM : zMs g G0 G o M := by rw [hGe]; exact zMs.rf hM
  show ZW g X 0 0 G0 0 [(0, .ref o), (1, .int (nI 0))] []
  rw [← hGe]
  refine z_iload_n hX dX4_stands_0 1 rfl (i := 1) rfl 1 rfl ?_
  refine z_iconst hX dX4_stands_1 2 rfl zki_2 ?_
  refine z_icmp_geN hX 0 2 (by omega) (by omega) dX4_stands_2 5 rfl (tgt := 12) (by decide) (fun c1 => ?_) (fun c1 => ?_)
  · exact absurd c1 (by omega)
  refine z_aload_n hX dX4_stands_5 6 rfl (i := 0) rfl 0 rfl ?_
  refine z_callVv hX cwX4_215 (met_X4_calm hG hM.1) hM.1.o rfl rfl dX4_stands_6 9 rfl rfl rfl (Nat.le_of_ble_eq_true rfl) (by decide) ⟨Nat.zero_le _, Nat.zero_le _⟩ (fun G hhM => ?_)
  have hM : zMs g G0 G o (calmM M) := zMs.tr hM hhM
  refine z_goto hX dX4_stands_9 (tgt := 16) (by decide) ?_
  refine z_iload_n hX dX4_stands_16 17 rfl (i := 1) rfl 1 rfl ?_
  refine z_iconst hX dX4_stands_17 18 rfl zki_1 ?_
  refine z_icmp_eqN hX 0 1 (by omega) (by omega) dX4_stands_18 21 rfl (tgt := 26) (by decide) (fun c2 => ?_) (fun c2 => ?_)
  · exact absurd c2 (by omega)
  refine z_iload_n hX dX4_stands_21 22 rfl (i := 1) rfl 1 rfl ?_
  refine z_iconst hX dX4_stands_22 23 rfl zki_2 ?_
  refine z_icmp_neN hX 0 2 (by omega) (by omega) dX4_stands_23 26 rfl (tgt := 30) (by decide) (fun c3 => ?_) (fun c3 => ?_)
  rotate_left 1
  · exact absurd c3 (by omega)
  exact z_vret hX hQ (Nat.zero_le _) (Nat.zero_le _) rfl dX4_stands_30 ⟨rfl, hM⟩
set_option maxHeartbeats 4000000 in
theorem met_X4_stands_1 {g : Zg} (hG : zG g) {G0 : zHG} {o : Nat} {M : MT} (hM : zMo g G0 o M) {A H : Nat} {K : Nat → Nat} (hN : zWf (mt_now M) A H K) (hc : zConv A H K (calmM M)) : ZM g yX4_stands cX4_stands 2 none 8 0 0 [.ref o, .int (nI 1)] G0 (fun r G' => r = none ∧ zMs g G0 G' o (setM A H K (calmM M))) := by
  have hN2 := hN.2.1
  have hN4 := hN.2.2.2.1
  refine ZM_mk hG (by decide) (Nat.le_of_ble_eq_true rfl) ?_
  intro X hX hname hQ
  obtain ⟨G, hGe⟩ : ∃ z, z = G0 := ⟨_, rfl⟩
  have hM : zMs g G0 G o M := by rw [hGe]; exact zMs.rf hM
  show ZW g X 0 0 G0 0 [(0, .ref o), (1, .int (nI 1))] []
  rw [← hGe]
  refine z_iload_n hX dX4_stands_0 1 rfl (i := 1) rfl 1 rfl ?_
  refine z_iconst hX dX4_stands_1 2 rfl zki_2 ?_
  refine z_icmp_geN hX 1 2 (by omega) (by omega) dX4_stands_2 5 rfl (tgt := 12) (by decide) (fun c1 => ?_) (fun c1 => ?_)
  · exact absurd c1 (by omega)
  refine z_aload_n hX dX4_stands_5 6 rfl (i := 0) rfl 0 rfl ?_
  refine z_callVv hX cwX4_215 (met_X4_calm hG hM.1) hM.1.o rfl rfl dX4_stands_6 9 rfl rfl rfl (Nat.le_of_ble_eq_true rfl) (by decide) ⟨Nat.zero_le _, Nat.zero_le _⟩ (fun G hhM => ?_)
  have hM : zMs g G0 G o (calmM M) := zMs.tr hM hhM
  refine z_goto hX dX4_stands_9 (tgt := 16) (by decide) ?_
  refine z_iload_n hX dX4_stands_16 17 rfl (i := 1) rfl 1 rfl ?_
  refine z_iconst hX dX4_stands_17 18 rfl zki_1 ?_
  refine z_icmp_eqN hX 1 1 (by omega) (by omega) dX4_stands_18 21 rfl (tgt := 26) (by decide) (fun c2 => ?_) (fun c2 => ?_)
  rotate_left 1
  · exact absurd rfl c2
  refine z_aload_n hX dX4_stands_26 27 rfl (i := 0) rfl 0 rfl ?_
  refine z_callVv hX cwX4_218 (met_X4_settles hG hM.1 (zWf_eq (by simp only [calmM, panicM, mg_now_fallen, mg_now_sold]) hN) hc) hM.1.o rfl rfl dX4_stands_27 30 rfl rfl rfl (Nat.le_of_ble_eq_true rfl) (by decide) ⟨Nat.zero_le _, Nat.zero_le _⟩ (fun G hhM => ?_)
  have hM : zMs g G0 G o (setM A H K (calmM M)) := zMs.tr hM hhM
  exact z_vret hX hQ (Nat.zero_le _) (Nat.zero_le _) rfl dX4_stands_30 ⟨rfl, hM⟩
set_option maxHeartbeats 4000000 in
theorem met_X4_stands_2 {g : Zg} (hG : zG g) {G0 : zHG} {o : Nat} {M : MT} (hM : zMo g G0 o M) {A H : Nat} {K : Nat → Nat} (hN : zWf (mt_now M) A H K) (hc : zConv A H K (panicM A H K M)) : ZM g yX4_stands cX4_stands 2 none 8 0 0 [.ref o, .int (nI 2)] G0 (fun r G' => r = none ∧ zMs g G0 G' o (setM A H K (panicM A H K M))) := by
  have hN2 := hN.2.1
  have hN4 := hN.2.2.2.1
  refine ZM_mk hG (by decide) (Nat.le_of_ble_eq_true rfl) ?_
  intro X hX hname hQ
  obtain ⟨G, hGe⟩ : ∃ z, z = G0 := ⟨_, rfl⟩
  have hM : zMs g G0 G o M := by rw [hGe]; exact zMs.rf hM
  show ZW g X 0 0 G0 0 [(0, .ref o), (1, .int (nI 2))] []
  rw [← hGe]
  refine z_iload_n hX dX4_stands_0 1 rfl (i := 1) rfl 1 rfl ?_
  refine z_iconst hX dX4_stands_1 2 rfl zki_2 ?_
  refine z_icmp_geN hX 2 2 (by omega) (by omega) dX4_stands_2 5 rfl (tgt := 12) (by decide) (fun c1 => ?_) (fun c1 => ?_)
  rotate_left 1
  · exact absurd c1 (by omega)
  refine z_aload_n hX dX4_stands_12 13 rfl (i := 0) rfl 0 rfl ?_
  refine z_callVv hX cwX4_221 (met_X4_panic hG hM.1 hN) hM.1.o rfl rfl dX4_stands_13 16 rfl rfl rfl (Nat.le_of_ble_eq_true rfl) (by decide) ⟨Nat.zero_le _, Nat.zero_le _⟩ (fun G hhM => ?_)
  have hM : zMs g G0 G o (panicM A H K M) := zMs.tr hM hhM
  refine z_iload_n hX dX4_stands_16 17 rfl (i := 1) rfl 1 rfl ?_
  refine z_iconst hX dX4_stands_17 18 rfl zki_1 ?_
  refine z_icmp_eqN hX 2 1 (by omega) (by omega) dX4_stands_18 21 rfl (tgt := 26) (by decide) (fun c2 => ?_) (fun c2 => ?_)
  · exact absurd c2 (by omega)
  refine z_iload_n hX dX4_stands_21 22 rfl (i := 1) rfl 1 rfl ?_
  refine z_iconst hX dX4_stands_22 23 rfl zki_2 ?_
  refine z_icmp_neN hX 2 2 (by omega) (by omega) dX4_stands_23 26 rfl (tgt := 30) (by decide) (fun c3 => ?_) (fun c3 => ?_)
  · exact absurd c3 (by omega)
  refine z_aload_n hX dX4_stands_26 27 rfl (i := 0) rfl 0 rfl ?_
  refine z_callVv hX cwX4_218 (met_X4_settles hG hM.1 (zWf_eq (by simp only [calmM, panicM, mg_now_fallen, mg_now_sold]) hN) hc) hM.1.o rfl rfl dX4_stands_27 30 rfl rfl rfl (Nat.le_of_ble_eq_true rfl) (by decide) ⟨Nat.zero_le _, Nat.zero_le _⟩ (fun G hhM => ?_)
  have hM : zMs g G0 G o (setM A H K (panicM A H K M)) := zMs.tr hM hhM
  exact z_vret hX hQ (Nat.zero_le _) (Nat.zero_le _) rfl dX4_stands_30 ⟨rfl, hM⟩
set_option maxHeartbeats 4000000 in
theorem met_X4_stands_3 {g : Zg} (hG : zG g) {G0 : zHG} {o : Nat} {M : MT} (hM : zMo g G0 o M) {A H : Nat} {K : Nat → Nat} (hN : zWf (mt_now M) A H K)  : ZM g yX4_stands cX4_stands 2 none 8 0 0 [.ref o, .int (nI 3)] G0 (fun r G' => r = none ∧ zMs g G0 G' o (panicM A H K M)) := by
  have hN2 := hN.2.1
  have hN4 := hN.2.2.2.1
  refine ZM_mk hG (by decide) (Nat.le_of_ble_eq_true rfl) ?_
  intro X hX hname hQ
  obtain ⟨G, hGe⟩ : ∃ z, z = G0 := ⟨_, rfl⟩
  have hM : zMs g G0 G o M := by rw [hGe]; exact zMs.rf hM
  show ZW g X 0 0 G0 0 [(0, .ref o), (1, .int (nI 3))] []
  rw [← hGe]
  refine z_iload_n hX dX4_stands_0 1 rfl (i := 1) rfl 1 rfl ?_
  refine z_iconst hX dX4_stands_1 2 rfl zki_2 ?_
  refine z_icmp_geN hX 3 2 (by omega) (by omega) dX4_stands_2 5 rfl (tgt := 12) (by decide) (fun c1 => ?_) (fun c1 => ?_)
  rotate_left 1
  · exact absurd c1 (by omega)
  refine z_aload_n hX dX4_stands_12 13 rfl (i := 0) rfl 0 rfl ?_
  refine z_callVv hX cwX4_221 (met_X4_panic hG hM.1 hN) hM.1.o rfl rfl dX4_stands_13 16 rfl rfl rfl (Nat.le_of_ble_eq_true rfl) (by decide) ⟨Nat.zero_le _, Nat.zero_le _⟩ (fun G hhM => ?_)
  have hM : zMs g G0 G o (panicM A H K M) := zMs.tr hM hhM
  refine z_iload_n hX dX4_stands_16 17 rfl (i := 1) rfl 1 rfl ?_
  refine z_iconst hX dX4_stands_17 18 rfl zki_1 ?_
  refine z_icmp_eqN hX 3 1 (by omega) (by omega) dX4_stands_18 21 rfl (tgt := 26) (by decide) (fun c2 => ?_) (fun c2 => ?_)
  · exact absurd c2 (by omega)
  refine z_iload_n hX dX4_stands_21 22 rfl (i := 1) rfl 1 rfl ?_
  refine z_iconst hX dX4_stands_22 23 rfl zki_2 ?_
  refine z_icmp_neN hX 3 2 (by omega) (by omega) dX4_stands_23 26 rfl (tgt := 30) (by decide) (fun c3 => ?_) (fun c3 => ?_)
  rotate_left 1
  · exact absurd c3 (by omega)
  exact z_vret hX hQ (Nat.zero_le _) (Nat.zero_le _) rfl dX4_stands_30 ⟨rfl, hM⟩
theorem met_X4_stands {g : Zg} (hG : zG g) {G0 : zHG} {o : Nat} {M : MT} (hM : zMo g G0 o M) {A H : Nat} {K : Nat → Nat} (hN : zWf (mt_now M) A H K) (w : Nat) (hw : w < 4) (hc : zStdOk A H K w M) : ZM g yX4_stands cX4_stands 2 none 8 0 0 [.ref o, .int (nI w)] G0 (fun r G' => r = none ∧ zMs g G0 G' o (ms_rounds (ms_willFall (ms_fallen (ms_sells (ms_sold M (mt_sold (zStd A H K w M))) (mt_sells (zStd A H K w M))) (mt_fallen (zStd A H K w M))) (mt_willFall (zStd A H K w M))) (mt_rounds (zStd A H K w M)))) := by
  rw [← zStd_eq]
  match w, hw, hc with
  | 0, _, hc => exact met_X4_stands_0 hG hM hN
  | 1, _, hc => exact met_X4_stands_1 hG hM hN (hc.1 rfl)
  | 2, _, hc => exact met_X4_stands_2 hG hM hN (hc.2 rfl)
  | 3, _, hc => exact met_X4_stands_3 hG hM hN
noncomputable def x4_least_sold (M : MT) (m_sold : Nat → Int32) (m_forced : Int32) (A : Nat) (H : Nat) (K : Nat → Nat) : Nat → Int32 := mt_sold (zSet A H K (ms_fallen (ms_sold M (x4_calm_sold (m_sold))) (x4_calm_fallen (m_forced))))
noncomputable def x4_least_sells (M : MT) (m_sold : Nat → Int32) (m_forced : Int32) (A : Nat) (H : Nat) (K : Nat → Nat) : Nat → Int32 := mt_sells (zSet A H K (ms_fallen (ms_sold M (x4_calm_sold (m_sold))) (x4_calm_fallen (m_forced))))
noncomputable def x4_least_fallen (M : MT) (m_sold : Nat → Int32) (m_forced : Int32) (A : Nat) (H : Nat) (K : Nat → Nat) : Int32 := mt_fallen (zSet A H K (ms_fallen (ms_sold M (x4_calm_sold (m_sold))) (x4_calm_fallen (m_forced))))
noncomputable def x4_least_willFall (M : MT) (m_sold : Nat → Int32) (m_forced : Int32) (A : Nat) (H : Nat) (K : Nat → Nat) : Int32 := mt_willFall (zSet A H K (ms_fallen (ms_sold M (x4_calm_sold (m_sold))) (x4_calm_fallen (m_forced))))
noncomputable def x4_least_rounds (M : MT) (m_sold : Nat → Int32) (m_forced : Int32) (A : Nat) (H : Nat) (K : Nat → Nat) : Int32 := nI (zN A H K (ms_fallen (ms_sold M (x4_calm_sold (m_sold))) (x4_calm_fallen (m_forced))))
set_option maxHeartbeats 4000000 in
theorem met_X4_least {g : Zg} (hG : zG g) {G0 : zHG} {o : Nat} {M : MT} (hM : zMo g G0 o M) {A H : Nat} {K : Nat → Nat} (hN : zWf (mt_now M) A H K)    (af0 : zConv A H K (ms_fallen (ms_sold M (x4_calm_sold (mt_sold M))) (x4_calm_fallen (mt_forced M)))) : ZM g yX4_least cX4_least 1 none 8 0 0 [.ref o] G0 (fun r G' => r = none ∧ zMs g G0 G' o (ms_rounds (ms_willFall (ms_fallen (ms_sells (ms_sold M (x4_least_sold M (mt_sold M) (mt_forced M) A H K)) (x4_least_sells M (mt_sold M) (mt_forced M) A H K)) (x4_least_fallen M (mt_sold M) (mt_forced M) A H K)) (x4_least_willFall M (mt_sold M) (mt_forced M) A H K)) (x4_least_rounds M (mt_sold M) (mt_forced M) A H K))) := by
  unfold x4_least_sold x4_least_sells x4_least_fallen x4_least_willFall x4_least_rounds
  have hN2 := hN.2.1
  have hN4 := hN.2.2.2.1
  refine ZM_mk hG (by decide) (Nat.le_of_ble_eq_true rfl) ?_
  intro X hX hname hQ
  obtain ⟨G, hGe⟩ : ∃ z, z = G0 := ⟨_, rfl⟩
  have hM : zMs g G0 G o M := by rw [hGe]; exact zMs.rf hM
  show ZW g X 0 0 G0 0 [(0, .ref o)] []
  rw [← hGe]
  refine z_aload_n hX dX4_least_0 1 rfl (i := 0) rfl 0 rfl ?_
  refine z_callVv hX cwX4_215 (met_X4_calm hG hM.1) hM.1.o rfl rfl dX4_least_1 4 rfl rfl rfl (Nat.le_of_ble_eq_true rfl) (by decide) ⟨Nat.zero_le _, Nat.zero_le _⟩ (fun G hhM => ?_)
  have hM := zMs.tr hM hhM
  have hM : zMs g G0 G o (ms_fallen (ms_sold M (x4_calm_sold (mt_sold M))) (x4_calm_fallen (mt_forced M))) := hM
  refine z_aload_n hX dX4_least_4 5 rfl (i := 0) rfl 0 rfl ?_
  refine z_callVv hX cwX4_218 (met_X4_settles hG hM.1 (zWf_eq ((mg_now_fallen _ _).trans (mg_now_sold _ _)) hN) af0) hM.1.o rfl rfl dX4_least_5 8 rfl rfl rfl (Nat.le_of_ble_eq_true rfl) (by decide) ⟨Nat.zero_le _, Nat.zero_le _⟩ (fun G hhM => ?_)
  have hM := zMs.tr hM hhM
  have hM : zMs g G0 G o (ms_rounds (ms_willFall (ms_fallen (ms_sells (ms_sold M (mt_sold (zSet A H K (ms_fallen (ms_sold M (x4_calm_sold (mt_sold M))) (x4_calm_fallen (mt_forced M)))))) (mt_sells (zSet A H K (ms_fallen (ms_sold M (x4_calm_sold (mt_sold M))) (x4_calm_fallen (mt_forced M)))))) (mt_fallen (zSet A H K (ms_fallen (ms_sold M (x4_calm_sold (mt_sold M))) (x4_calm_fallen (mt_forced M)))))) (mt_willFall (zSet A H K (ms_fallen (ms_sold M (x4_calm_sold (mt_sold M))) (x4_calm_fallen (mt_forced M)))))) (nI (zN A H K (ms_fallen (ms_sold M (x4_calm_sold (mt_sold M))) (x4_calm_fallen (mt_forced M)))))) := by simpa only [mc_sold_sells, mc_sold_fallen, mc_sold_willFall, mc_sold_rounds, mm_sold, mc_sells_fallen, mc_sells_willFall, mc_sells_rounds, mm_sells, mc_fallen_willFall, mc_fallen_rounds, mm_fallen, mc_willFall_rounds, mm_willFall, mm_rounds] using hM
  exact z_vret hX hQ (Nat.zero_le _) (Nat.zero_le _) rfl dX4_least_8 ⟨rfl, hM⟩
def x4_told (m_now : Nat → Int32) (m_sold : Nat → Int32) (m_fallen : Int32) (m_extraOf : Int32) (m_extraShock : Int32) (m_buyerOf : Int32) (m_buys : Int32) (m_part : Int32) (A : Nat) (H : Nat) (K : Nat → Nat) (w : Nat) : Int32 := (if 4 ≤ w then (if w = 4 then m_fallen else (if w = 5 then x4_lost (m_now) (m_sold) (m_extraOf) (m_extraShock) (m_buyerOf) (m_buys) (m_part) A H K else (if w = 6 then x4_bits (m_fallen) else (((m_sold 0) + (m_sold 1)) + (m_sold 2)) + (m_sold 3) : Int32) : Int32) : Int32) else m_sold w : Int32)
set_option maxHeartbeats 4000000 in
theorem met_X4_told {g : Zg} (hG : zG g) {G : zHG} {o : Nat} {M : MT} (hM : zMo g G o M) {A H : Nat} {K : Nat → Nat} (hN : zWf (mt_now M) A H K) (w : Nat)  (h_w : w < 8) (hf0 : w < 4 → w < A) : ZM g yX4_told cX4_told 2 (some FieldType.int) 5 0 0 [.ref o, .int (nI w)] G (zRet (some (.int (x4_told (mt_now M) (mt_sold M) (mt_fallen M) (mt_extraOf M) (mt_extraShock M) (mt_buyerOf M) (mt_buys M) (mt_part M) A H K w))) G) := by
  unfold x4_told
  have hN2 := hN.2.1
  have hN4 := hN.2.2.2.1
  have hM : zMs g G G o M := zMs.rf hM
  refine ZM_mk hG (by decide) (Nat.le_of_ble_eq_true rfl) ?_
  intro X hX hname hQ
  show ZW g X 0 0 G 0 [(0, .ref o), (1, .int (nI w))] []
  refine z_iload_n hX dX4_told_0 1 rfl (i := 1) rfl 1 rfl ?_
  refine z_iconst hX dX4_told_1 2 rfl zki_4 ?_
  refine z_icmp_geN hX w 4 (by omega) (by omega) dX4_told_2 5 rfl (tgt := 12) (by decide) (fun c1 => ?_) (fun c1 => ?_)
  ·
    refine z_iload_n hX dX4_told_12 13 rfl (i := 1) rfl 1 rfl ?_
    refine z_iconst hX dX4_told_13 14 rfl zki_4 ?_
    have J3 : ZW g X 0 0 G 79 [(0, .ref o), (1, .int (nI w))] [.int (if w = 4 then mt_fallen M else (if w = 5 then x4_lost (mt_now M) (mt_sold M) (mt_extraOf M) (mt_extraShock M) (mt_buyerOf M) (mt_buys M) (mt_part M) A H K else (if w = 6 then x4_bits (mt_fallen M) else (((mt_sold M 0) + (mt_sold M 1)) + (mt_sold M 2)) + (mt_sold M 3) : Int32) : Int32) : Int32)] := by
      exact z_iret hX hQ (Nat.zero_le _) (Nat.zero_le _) rfl dX4_told_79 ⟨(by first | (simp only [if_pos c1] <;> rfl; done) | grind), rfl⟩
    refine z_icmp_neN hX w 4 (by omega) (by omega) dX4_told_14 17 rfl (tgt := 24) (by decide) (fun c2 => ?_) (fun c2 => ?_)
    ·
      refine z_iload_n hX dX4_told_24 25 rfl (i := 1) rfl 1 rfl ?_
      refine z_iconst hX dX4_told_25 26 rfl zki_5 ?_
      refine z_icmp_neN hX w 5 (by omega) (by omega) dX4_told_26 29 rfl (tgt := 36) (by decide) (fun c4 => ?_) (fun c4 => ?_)
      ·
        refine z_iload_n hX dX4_told_36 37 rfl (i := 1) rfl 1 rfl ?_
        refine z_bipush hX dX4_told_37 39 rfl zkb_6 ?_
        refine z_icmp_neN hX w 6 (by omega) (by omega) dX4_told_39 42 rfl (tgt := 52) (by decide) (fun c5 => ?_) (fun c5 => ?_)
        ·
          refine z_aload_n hX dX4_told_52 53 rfl (i := 0) rfl 0 rfl ?_
          refine z_getf hX fX4_22 hM.1.o dX4_told_53 56 rfl (x := .ref (o + 5)) rfl ?_
          refine z_iconst hX dX4_told_56 57 rfl zki_0 ?_
          refine m_ald_sold hX hM 0 (by omega) dX4_told_57 58 rfl (w := mt_sold M 0) rfl ?_
          refine z_aload_n hX dX4_told_58 59 rfl (i := 0) rfl 0 rfl ?_
          refine z_getf hX fX4_22 hM.1.o dX4_told_59 62 rfl (x := .ref (o + 5)) rfl ?_
          refine z_iconst hX dX4_told_62 63 rfl zki_1 ?_
          refine m_ald_sold hX hM 1 (by omega) dX4_told_63 64 rfl (w := mt_sold M 1) rfl ?_
          refine z_iadd hX dX4_told_64 65 rfl (w := (mt_sold M 0) + (mt_sold M 1)) rfl ?_
          refine z_aload_n hX dX4_told_65 66 rfl (i := 0) rfl 0 rfl ?_
          refine z_getf hX fX4_22 hM.1.o dX4_told_66 69 rfl (x := .ref (o + 5)) rfl ?_
          refine z_iconst hX dX4_told_69 70 rfl zki_2 ?_
          refine m_ald_sold hX hM 2 (by omega) dX4_told_70 71 rfl (w := mt_sold M 2) rfl ?_
          refine z_iadd hX dX4_told_71 72 rfl (w := ((mt_sold M 0) + (mt_sold M 1)) + (mt_sold M 2)) rfl ?_
          refine z_aload_n hX dX4_told_72 73 rfl (i := 0) rfl 0 rfl ?_
          refine z_getf hX fX4_22 hM.1.o dX4_told_73 76 rfl (x := .ref (o + 5)) rfl ?_
          refine z_iconst hX dX4_told_76 77 rfl zki_3 ?_
          refine m_ald_sold hX hM 3 (by omega) dX4_told_77 78 rfl (w := mt_sold M 3) rfl ?_
          refine z_iadd hX dX4_told_78 79 rfl (w := (((mt_sold M 0) + (mt_sold M 1)) + (mt_sold M 2)) + (mt_sold M 3)) rfl ?_
          exact z_eqL rfl (by first | (simp only [if_pos c1, if_neg c2, if_neg c4, if_neg c5] <;> rfl; done) | grind) J3
        ·
          refine z_aload_n hX dX4_told_42 43 rfl (i := 0) rfl 0 rfl ?_
          refine m_get_fallen hX hM fX4_184 dX4_told_43 46 rfl (w := mt_fallen M) rfl ?_
          refine z_callSp hX cwX4_231 (w := .int (x4_bits (mt_fallen M))) (met_X4_bits hG (mt_fallen M)) dX4_told_46 49 rfl rfl rfl (Nat.le_of_ble_eq_true rfl) (by decide) ⟨Nat.zero_le _, Nat.zero_le _⟩ ?_
          refine z_goto hX dX4_told_49 (tgt := 79) (by decide) ?_
          exact z_eqL rfl (by first | (simp only [if_pos c1, if_neg c2, if_neg c4, if_pos c5] <;> rfl; done) | grind) J3
      ·
        refine z_aload_n hX dX4_told_29 30 rfl (i := 0) rfl 0 rfl ?_
        refine z_callVp hX cwX4_227 (w := .int (x4_lost (mt_now M) (mt_sold M) (mt_extraOf M) (mt_extraShock M) (mt_buyerOf M) (mt_buys M) (mt_part M) A H K)) (met_X4_lost hG hM.1 hN) hM.1.o rfl rfl dX4_told_30 33 rfl rfl rfl (Nat.le_of_ble_eq_true rfl) (by decide) ⟨Nat.zero_le _, Nat.zero_le _⟩ ?_
        refine z_goto hX dX4_told_33 (tgt := 79) (by decide) ?_
        exact z_eqL rfl (by first | (simp only [if_pos c1, if_neg c2, if_pos c4] <;> rfl; done) | grind) J3
    ·
      refine z_aload_n hX dX4_told_17 18 rfl (i := 0) rfl 0 rfl ?_
      refine m_get_fallen hX hM fX4_184 dX4_told_18 21 rfl (w := mt_fallen M) rfl ?_
      refine z_goto hX dX4_told_21 (tgt := 79) (by decide) ?_
      exact z_eqL rfl (by first | (simp only [if_pos c1, if_pos c2] <;> rfl; done) | grind) J3
  ·
    refine z_aload_n hX dX4_told_5 6 rfl (i := 0) rfl 0 rfl ?_
    refine z_getf hX fX4_22 hM.1.o dX4_told_6 9 rfl (x := .ref (o + 5)) rfl ?_
    refine z_iload_n hX dX4_told_9 10 rfl (i := 1) rfl 1 rfl ?_
    refine m_ald_sold hX hM w (by omega) dX4_told_10 11 rfl (w := mt_sold M w) rfl ?_
    exact z_iret hX hQ (Nat.zero_le _) (Nat.zero_le _) rfl dX4_told_11 ⟨(by first | (simp only [if_neg (Nat.not_le.mpr c1)] <;> rfl; done) | grind), rfl⟩
