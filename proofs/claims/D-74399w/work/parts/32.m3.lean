set_option maxRecDepth 100000
def x4_plain_l2 (ini : Nat → Int32) (k : Nat) : Nat → Int32 := zfold k (fun j1 cj1 => upd cj1 j1 0) ini
theorem x4_plain_l2_0 (ini : Nat → Int32) : x4_plain_l2 ini 0 = ini := (zfold_0 _ _).trans (Eq.refl _)
def x4_plain_coins (m_coins : Nat → Int32) : Nat → Int32 := x4_plain_l2 (m_coins) 6
def x4_plain_extraOf : Int32 := (-1)
def x4_plain_extraCap : Int32 := 360
def x4_plain_extraShock : Int32 := 0
def x4_plain_buyerOf : Int32 := (-1)
def x4_plain_buys : Int32 := 0
def x4_plain_part : Int32 := 100
def x4_plain_forced : Int32 := 0
set_option maxHeartbeats 4000000 in
theorem met_X4_plain {g : Zg} (hG : zG g) {G0 : zHG} {o : Nat} {M : MT} (hM : zMo g G0 o M)     : ZM g yX4_plain cX4_plain 2 none 2 0 0 [.ref o] G0 (fun r G' => r = none ∧ zMs g G0 G' o (ms_forced (ms_part (ms_buys (ms_buyerOf (ms_extraShock (ms_extraCap (ms_extraOf (ms_coins M (x4_plain_coins (mt_coins M))) x4_plain_extraOf) x4_plain_extraCap) x4_plain_extraShock) x4_plain_buyerOf) x4_plain_buys) x4_plain_part) x4_plain_forced)) := by
  unfold x4_plain_coins x4_plain_extraOf x4_plain_extraCap x4_plain_extraShock x4_plain_buyerOf x4_plain_buys x4_plain_part x4_plain_forced
  refine ZM_mk hG (by decide) (Nat.le_of_ble_eq_true rfl) ?_
  intro X hX hname hQ
  obtain ⟨G, hGe⟩ : ∃ z, z = G0 := ⟨_, rfl⟩
  have hM : zMs g G0 G o M := by rw [hGe]; exact zMs.rf hM
  show ZW g X 0 0 G0 0 [(0, .ref o)] []
  rw [← hGe]
  refine z_iconst hX dX4_plain_0 1 rfl zki_0 ?_
  refine z_istore_n hX dX4_plain_1 2 rfl (i := 1) rfl (Nat.le_of_ble_eq_true rfl) rfl (L' := [(0, .ref o), (1, .int 0)]) rfl ?_
  have E2 : ∀ G : zHG, zMs g G0 G o (ms_coins M (x4_plain_l2 (mt_coins M) 6)) → ZW g X 0 0 G 21 [(0, .ref o), (1, .int (nI 6))] [] := by
    intro G hM
    refine z_aload_n hX dX4_plain_21 22 rfl (i := 0) rfl 0 rfl ?_
    refine z_iconst hX dX4_plain_22 23 rfl zki_m1 ?_
    refine m_put_extraOf hX hM fX4_31 dX4_plain_23 26 rfl (fun G hM => ?_)
    have hM : zMs g G0 G o (ms_extraOf (ms_coins M (x4_plain_l2 (mt_coins M) 6)) (-1)) := hM
    refine z_aload_n hX dX4_plain_26 27 rfl (i := 0) rfl 0 rfl ?_
    refine z_sipush hX dX4_plain_27 30 rfl zks_360 ?_
    refine m_put_extraCap hX hM fX4_35 dX4_plain_30 33 rfl (fun G hM => ?_)
    have hM : zMs g G0 G o (ms_extraCap (ms_extraOf (ms_coins M (x4_plain_l2 (mt_coins M) 6)) (-1)) 360) := hM
    refine z_aload_n hX dX4_plain_33 34 rfl (i := 0) rfl 0 rfl ?_
    refine z_iconst hX dX4_plain_34 35 rfl zki_0 ?_
    refine m_put_extraShock hX hM fX4_159 dX4_plain_35 38 rfl (fun G hM => ?_)
    have hM : zMs g G0 G o (ms_extraShock (ms_extraCap (ms_extraOf (ms_coins M (x4_plain_l2 (mt_coins M) 6)) (-1)) 360) 0) := hM
    refine z_aload_n hX dX4_plain_38 39 rfl (i := 0) rfl 0 rfl ?_
    refine z_iconst hX dX4_plain_39 40 rfl zki_m1 ?_
    refine m_put_buyerOf hX hM fX4_38 dX4_plain_40 43 rfl (fun G hM => ?_)
    have hM : zMs g G0 G o (ms_buyerOf (ms_extraShock (ms_extraCap (ms_extraOf (ms_coins M (x4_plain_l2 (mt_coins M) 6)) (-1)) 360) 0) (-1)) := hM
    refine z_aload_n hX dX4_plain_43 44 rfl (i := 0) rfl 0 rfl ?_
    refine z_iconst hX dX4_plain_44 45 rfl zki_0 ?_
    refine m_put_buys hX hM fX4_162 dX4_plain_45 48 rfl (fun G hM => ?_)
    have hM : zMs g G0 G o (ms_buys (ms_buyerOf (ms_extraShock (ms_extraCap (ms_extraOf (ms_coins M (x4_plain_l2 (mt_coins M) 6)) (-1)) 360) 0) (-1)) 0) := hM
    refine z_aload_n hX dX4_plain_48 49 rfl (i := 0) rfl 0 rfl ?_
    refine z_bipush hX dX4_plain_49 51 rfl zkb_100 ?_
    refine m_put_part hX hM fX4_41 dX4_plain_51 54 rfl (fun G hM => ?_)
    have hM : zMs g G0 G o (ms_part (ms_buys (ms_buyerOf (ms_extraShock (ms_extraCap (ms_extraOf (ms_coins M (x4_plain_l2 (mt_coins M) 6)) (-1)) 360) 0) (-1)) 0) 100) := hM
    refine z_aload_n hX dX4_plain_54 55 rfl (i := 0) rfl 0 rfl ?_
    refine z_iconst hX dX4_plain_55 56 rfl zki_0 ?_
    refine m_put_forced hX hM fX4_165 dX4_plain_56 59 rfl (fun G hM => ?_)
    have hM : zMs g G0 G o (ms_forced (ms_part (ms_buys (ms_buyerOf (ms_extraShock (ms_extraCap (ms_extraOf (ms_coins M (x4_plain_l2 (mt_coins M) 6)) (-1)) 360) 0) (-1)) 0) 100) 0) := hM
    exact z_vret hX hQ (Nat.zero_le _) (Nat.zero_le _) rfl dX4_plain_59 ⟨rfl, hM⟩
  have Lp3 : ∀ k j1 : Nat, j1 + k = 6 → ∀ G : zHG, zMs g G0 G o (ms_coins M (x4_plain_l2 (mt_coins M) j1)) → ZW g X 0 0 G 2 [(0, .ref o), (1, .int (nI j1))] [] := by
    intro k
    induction k with
    | zero =>
      intro j1 hj1 G hM
      rw [show j1 = 6 from by omega] at hM ⊢
      refine z_iload_n hX dX4_plain_2 3 rfl (i := 1) rfl 1 rfl ?_
      refine z_bipush hX dX4_plain_3 5 rfl zkb_6 ?_
      refine z_icmp_geN hX 6 6 (by omega) (by omega) dX4_plain_5 8 rfl (tgt := 21) (by decide) (fun c4 => ?_) (fun c4 => ?_)
      · exact E2 _ hM
      · exact absurd c4 (by omega)
    | succ k ih =>
      intro j1 hj1 G hM
      refine z_iload_n hX dX4_plain_2 3 rfl (i := 1) rfl 1 rfl ?_
      refine z_bipush hX dX4_plain_3 5 rfl zkb_6 ?_
      refine z_icmp_geN hX j1 6 (by omega) (by omega) dX4_plain_5 8 rfl (tgt := 21) (by decide) (fun c5 => ?_) (fun c5 => ?_)
      · exact absurd c5 (by omega)
      ·
        refine z_aload_n hX dX4_plain_8 9 rfl (i := 0) rfl 0 rfl ?_
        refine z_getf hX fX4_28 hM.1.o dX4_plain_9 12 rfl (x := .ref (o + 7)) rfl ?_
        refine z_iload_n hX dX4_plain_12 13 rfl (i := 1) rfl 1 rfl ?_
        refine z_iconst hX dX4_plain_13 14 rfl zki_0 ?_
        refine m_ast_coins hX hM j1 (by omega) dX4_plain_14 15 rfl (fun G hM => ?_)
        have hM : zMs g G0 G o (ms_coins M (upd (x4_plain_l2 (mt_coins M) j1) j1 0)) := by simpa only [mgs_coins, mm_coins] using hM
        refine z_iinc hX dX4_plain_15 18 rfl 1 rfl (w := nI (j1 + 1)) (nI_1 j1) (Nat.le_of_ble_eq_true rfl) rfl (L' := [(0, .ref o), (1, .int (nI (j1 + 1)))]) rfl ?_
        refine z_goto hX dX4_plain_18 (tgt := 2) (by decide) ?_
        exact ih (j1 + 1) (by omega) _ hM
  have hM : zMs g G0 G o (ms_coins M (x4_plain_l2 (mt_coins M) 0)) := by simpa only [x4_plain_l2_0, me_coins, mm_coins] using hM
  exact Lp3 6 0 (by omega) _ hM
def x4_calm_l2 (ini : Nat → Int32) (k : Nat) : Nat → Int32 := zfold k (fun j1 cj1 => upd cj1 j1 0) ini
theorem x4_calm_l2_0 (ini : Nat → Int32) : x4_calm_l2 ini 0 = ini := (zfold_0 _ _).trans (Eq.refl _)
def x4_calm_sold (m_sold : Nat → Int32) : Nat → Int32 := x4_calm_l2 (m_sold) 4
def x4_calm_fallen (m_forced : Int32) : Int32 := m_forced
set_option maxHeartbeats 4000000 in
theorem met_X4_calm {g : Zg} (hG : zG g) {G0 : zHG} {o : Nat} {M : MT} (hM : zMo g G0 o M)     : ZM g yX4_calm cX4_calm 2 none 2 0 0 [.ref o] G0 (fun r G' => r = none ∧ zMs g G0 G' o (ms_fallen (ms_sold M (x4_calm_sold (mt_sold M))) (x4_calm_fallen (mt_forced M)))) := by
  unfold x4_calm_sold x4_calm_fallen
  refine ZM_mk hG (by decide) (Nat.le_of_ble_eq_true rfl) ?_
  intro X hX hname hQ
  obtain ⟨G, hGe⟩ : ∃ z, z = G0 := ⟨_, rfl⟩
  have hM : zMs g G0 G o M := by rw [hGe]; exact zMs.rf hM
  show ZW g X 0 0 G0 0 [(0, .ref o)] []
  rw [← hGe]
  refine z_iconst hX dX4_calm_0 1 rfl zki_0 ?_
  refine z_istore_n hX dX4_calm_1 2 rfl (i := 1) rfl (Nat.le_of_ble_eq_true rfl) rfl (L' := [(0, .ref o), (1, .int 0)]) rfl ?_
  have E2 : ∀ G : zHG, zMs g G0 G o (ms_sold M (x4_calm_l2 (mt_sold M) 4)) → ZW g X 0 0 G 20 [(0, .ref o), (1, .int (nI 4))] [] := by
    intro G hM
    refine z_aload_n hX dX4_calm_20 21 rfl (i := 0) rfl 0 rfl ?_
    refine z_aload_n hX dX4_calm_21 22 rfl (i := 0) rfl 0 rfl ?_
    refine m_get_forced hX hM fX4_165 dX4_calm_22 25 rfl (w := mt_forced M) (mg_forced_sold _ _) ?_
    refine m_put_fallen hX hM fX4_184 dX4_calm_25 28 rfl (fun G hM => ?_)
    have hM : zMs g G0 G o (ms_fallen (ms_sold M (x4_calm_l2 (mt_sold M) 4)) (mt_forced M)) := hM
    exact z_vret hX hQ (Nat.zero_le _) (Nat.zero_le _) rfl dX4_calm_28 ⟨rfl, hM⟩
  have Lp3 : ∀ k j1 : Nat, j1 + k = 4 → ∀ G : zHG, zMs g G0 G o (ms_sold M (x4_calm_l2 (mt_sold M) j1)) → ZW g X 0 0 G 2 [(0, .ref o), (1, .int (nI j1))] [] := by
    intro k
    induction k with
    | zero =>
      intro j1 hj1 G hM
      rw [show j1 = 4 from by omega] at hM ⊢
      refine z_iload_n hX dX4_calm_2 3 rfl (i := 1) rfl 1 rfl ?_
      refine z_iconst hX dX4_calm_3 4 rfl zki_4 ?_
      refine z_icmp_geN hX 4 4 (by omega) (by omega) dX4_calm_4 7 rfl (tgt := 20) (by decide) (fun c4 => ?_) (fun c4 => ?_)
      · exact E2 _ hM
      · exact absurd c4 (by omega)
    | succ k ih =>
      intro j1 hj1 G hM
      refine z_iload_n hX dX4_calm_2 3 rfl (i := 1) rfl 1 rfl ?_
      refine z_iconst hX dX4_calm_3 4 rfl zki_4 ?_
      refine z_icmp_geN hX j1 4 (by omega) (by omega) dX4_calm_4 7 rfl (tgt := 20) (by decide) (fun c5 => ?_) (fun c5 => ?_)
      · exact absurd c5 (by omega)
      ·
        refine z_aload_n hX dX4_calm_7 8 rfl (i := 0) rfl 0 rfl ?_
        refine z_getf hX fX4_22 hM.1.o dX4_calm_8 11 rfl (x := .ref (o + 5)) rfl ?_
        refine z_iload_n hX dX4_calm_11 12 rfl (i := 1) rfl 1 rfl ?_
        refine z_iconst hX dX4_calm_12 13 rfl zki_0 ?_
        refine m_ast_sold hX hM j1 (by omega) dX4_calm_13 14 rfl (fun G hM => ?_)
        have hM : zMs g G0 G o (ms_sold M (upd (x4_calm_l2 (mt_sold M) j1) j1 0)) := by simpa only [mgs_sold, mm_sold] using hM
        refine z_iinc hX dX4_calm_14 17 rfl 1 rfl (w := nI (j1 + 1)) (nI_1 j1) (Nat.le_of_ble_eq_true rfl) rfl (L' := [(0, .ref o), (1, .int (nI (j1 + 1)))]) rfl ?_
        refine z_goto hX dX4_calm_17 (tgt := 2) (by decide) ?_
        exact ih (j1 + 1) (by omega) _ hM
  have hM : zMs g G0 G o (ms_sold M (x4_calm_l2 (mt_sold M) 0)) := by simpa only [x4_calm_l2_0, me_sold, mm_sold] using hM
  exact Lp3 4 0 (by omega) _ hM
def x4_lost_l4 (m_now : Nat → Int32) (m_sold : Nat → Int32) (m_extraOf : Int32) (m_extraShock : Int32) (m_buyerOf : Int32) (m_buys : Int32) (m_part : Int32) (H : Nat) (K : Nat → Nat) (ini : Int32) (k : Nat) : Int32 := zfold k (fun j1 cj1 => cj1 + ((x4_heldOf (m_now) H j1) * ((x4_priceBy (m_now) (m_extraOf) (m_extraShock) (m_buyerOf) (m_buys) (m_part) K j1 0) - (x4_priceBy (m_now) (m_extraOf) (m_extraShock) (m_buyerOf) (m_buys) (m_part) K j1 (m_sold j1))))) ini
theorem x4_lost_l4_0 (m_now : Nat → Int32) (m_sold : Nat → Int32) (m_extraOf : Int32) (m_extraShock : Int32) (m_buyerOf : Int32) (m_buys : Int32) (m_part : Int32) (H : Nat) (K : Nat → Nat) (ini : Int32) : x4_lost_l4 m_now m_sold m_extraOf m_extraShock m_buyerOf m_buys m_part H K ini 0 = ini := (zfold_0 _ _).trans (Eq.refl _)
def x4_lost (m_now : Nat → Int32) (m_sold : Nat → Int32) (m_extraOf : Int32) (m_extraShock : Int32) (m_buyerOf : Int32) (m_buys : Int32) (m_part : Int32) (A : Nat) (H : Nat) (K : Nat → Nat) : Int32 := x4_lost_l4 (m_now) (m_sold) (m_extraOf) (m_extraShock) (m_buyerOf) (m_buys) (m_part) H K 0 A
set_option maxHeartbeats 4000000 in
theorem met_X4_lost {g : Zg} (hG : zG g) {G : zHG} {o : Nat} {M : MT} (hM : zMo g G o M) {A H : Nat} {K : Nat → Nat} (hN : zWf (mt_now M) A H K)     : ZM g yX4_lost cX4_lost 3 (some FieldType.int) 4 0 0 [.ref o] G (zRet (some (.int (x4_lost (mt_now M) (mt_sold M) (mt_extraOf M) (mt_extraShock M) (mt_buyerOf M) (mt_buys M) (mt_part M) A H K))) G) := by
  unfold x4_lost
  have hN2 := hN.2.1
  have hN4 := hN.2.2.2.1
  have hM : zMs g G G o M := zMs.rf hM
  refine ZM_mk hG (by decide) (Nat.le_of_ble_eq_true rfl) ?_
  intro X hX hname hQ
  show ZW g X 0 0 G 0 [(0, .ref o)] []
  refine z_iconst hX dX4_lost_0 1 rfl zki_0 ?_
  refine z_istore_n hX dX4_lost_1 2 rfl (i := 1) rfl (Nat.le_of_ble_eq_true rfl) rfl (L' := [(0, .ref o), (1, .int 0)]) rfl ?_
  refine z_iconst hX dX4_lost_2 3 rfl zki_0 ?_
  refine z_istore_n hX dX4_lost_3 4 rfl (i := 2) rfl (Nat.le_of_ble_eq_true rfl) rfl (L' := [(0, .ref o), (1, .int 0), (2, .int 0)]) rfl ?_
  have E2 : ZW g X 0 0 G 47 [(0, .ref o), (1, .int (x4_lost_l4 (mt_now M) (mt_sold M) (mt_extraOf M) (mt_extraShock M) (mt_buyerOf M) (mt_buys M) (mt_part M) H K 0 A)), (2, .int (nI A))] [] := by
    refine z_iload_n hX dX4_lost_47 48 rfl (i := 1) rfl 1 rfl ?_
    exact z_iret hX hQ (Nat.zero_le _) (Nat.zero_le _) rfl dX4_lost_48 ⟨rfl, rfl⟩
  have Lp3 : ∀ k j1 : Nat, j1 + k = A → ZW g X 0 0 G 4 [(0, .ref o), (1, .int (x4_lost_l4 (mt_now M) (mt_sold M) (mt_extraOf M) (mt_extraShock M) (mt_buyerOf M) (mt_buys M) (mt_part M) H K 0 j1)), (2, .int (nI j1))] [] := by
    intro k
    induction k with
    | zero =>
      intro j1 hj1
      rw [show j1 = A from by omega]
      refine z_iload_n hX dX4_lost_4 5 rfl (i := 2) rfl 2 rfl ?_
      refine z_aload_n hX dX4_lost_5 6 rfl (i := 0) rfl 0 rfl ?_
      refine z_getf hX fX4_7 hM.1.o dX4_lost_6 9 rfl (x := .ref (o + 1)) rfl ?_
      refine z_iconst hX dX4_lost_9 10 rfl zki_0 ?_
      refine m_ald_now hX hM 0 (by omega) dX4_lost_10 11 rfl (w := nI A) hN.1 ?_
      refine z_icmp_geN hX A A (by omega) (by omega) dX4_lost_11 14 rfl (tgt := 47) (by decide) (fun c4 => ?_) (fun c4 => ?_)
      · exact E2
      · exact absurd c4 (by omega)
    | succ k ih =>
      intro j1 hj1
      refine z_iload_n hX dX4_lost_4 5 rfl (i := 2) rfl 2 rfl ?_
      refine z_aload_n hX dX4_lost_5 6 rfl (i := 0) rfl 0 rfl ?_
      refine z_getf hX fX4_7 hM.1.o dX4_lost_6 9 rfl (x := .ref (o + 1)) rfl ?_
      refine z_iconst hX dX4_lost_9 10 rfl zki_0 ?_
      refine m_ald_now hX hM 0 (by omega) dX4_lost_10 11 rfl (w := nI A) hN.1 ?_
      refine z_icmp_geN hX j1 A (by omega) (by omega) dX4_lost_11 14 rfl (tgt := 47) (by decide) (fun c5 => ?_) (fun c5 => ?_)
      · exact absurd c5 (by omega)
      ·
        refine z_iload_n hX dX4_lost_14 15 rfl (i := 1) rfl 1 rfl ?_
        refine z_aload_n hX dX4_lost_15 16 rfl (i := 0) rfl 0 rfl ?_
        refine z_iload_n hX dX4_lost_16 17 rfl (i := 2) rfl 2 rfl ?_
        refine z_callVp hX cwX4_205 (w := .int (x4_heldOf (mt_now M) H j1)) (met_X4_heldOf hG hM.1 hN j1 (by omega)) hM.1.o rfl rfl dX4_lost_17 20 rfl rfl rfl (Nat.le_of_ble_eq_true rfl) (by decide) ⟨Nat.zero_le _, Nat.zero_le _⟩ ?_
        refine z_aload_n hX dX4_lost_20 21 rfl (i := 0) rfl 0 rfl ?_
        refine z_iload_n hX dX4_lost_21 22 rfl (i := 2) rfl 2 rfl ?_
        refine z_iconst hX dX4_lost_22 23 rfl zki_0 ?_
        refine z_callVp hX cwX4_178 (w := .int (x4_priceBy (mt_now M) (mt_extraOf M) (mt_extraShock M) (mt_buyerOf M) (mt_buys M) (mt_part M) K j1 0)) (met_X4_priceBy hG hM.1 hN j1 0 (by omega)) hM.1.o rfl rfl dX4_lost_23 26 rfl rfl rfl (Nat.le_of_ble_eq_true rfl) (by decide) ⟨Nat.zero_le _, Nat.zero_le _⟩ ?_
        refine z_aload_n hX dX4_lost_26 27 rfl (i := 0) rfl 0 rfl ?_
        refine z_iload_n hX dX4_lost_27 28 rfl (i := 2) rfl 2 rfl ?_
        refine z_aload_n hX dX4_lost_28 29 rfl (i := 0) rfl 0 rfl ?_
        refine z_getf hX fX4_22 hM.1.o dX4_lost_29 32 rfl (x := .ref (o + 5)) rfl ?_
        refine z_iload_n hX dX4_lost_32 33 rfl (i := 2) rfl 2 rfl ?_
        refine m_ald_sold hX hM j1 (by omega) dX4_lost_33 34 rfl (w := mt_sold M j1) rfl ?_
        refine z_callVp hX cwX4_178 (w := .int (x4_priceBy (mt_now M) (mt_extraOf M) (mt_extraShock M) (mt_buyerOf M) (mt_buys M) (mt_part M) K j1 (mt_sold M j1))) (met_X4_priceBy hG hM.1 hN j1 (mt_sold M j1) (by omega)) hM.1.o rfl rfl dX4_lost_34 37 rfl rfl rfl (Nat.le_of_ble_eq_true rfl) (by decide) ⟨Nat.zero_le _, Nat.zero_le _⟩ ?_
        refine z_isub hX dX4_lost_37 38 rfl (w := (x4_priceBy (mt_now M) (mt_extraOf M) (mt_extraShock M) (mt_buyerOf M) (mt_buys M) (mt_part M) K j1 0) - (x4_priceBy (mt_now M) (mt_extraOf M) (mt_extraShock M) (mt_buyerOf M) (mt_buys M) (mt_part M) K j1 (mt_sold M j1))) rfl ?_
        refine z_imul hX dX4_lost_38 39 rfl (w := (x4_heldOf (mt_now M) H j1) * ((x4_priceBy (mt_now M) (mt_extraOf M) (mt_extraShock M) (mt_buyerOf M) (mt_buys M) (mt_part M) K j1 0) - (x4_priceBy (mt_now M) (mt_extraOf M) (mt_extraShock M) (mt_buyerOf M) (mt_buys M) (mt_part M) K j1 (mt_sold M j1)))) rfl ?_
        refine z_iadd hX dX4_lost_39 40 rfl (w := (x4_lost_l4 (mt_now M) (mt_sold M) (mt_extraOf M) (mt_extraShock M) (mt_buyerOf M) (mt_buys M) (mt_part M) H K 0 j1) + ((x4_heldOf (mt_now M) H j1) * ((x4_priceBy (mt_now M) (mt_extraOf M) (mt_extraShock M) (mt_buyerOf M) (mt_buys M) (mt_part M) K j1 0) - (x4_priceBy (mt_now M) (mt_extraOf M) (mt_extraShock M) (mt_buyerOf M) (mt_buys M) (mt_part M) K j1 (mt_sold M j1))))) rfl ?_
        refine z_istore_n hX dX4_lost_40 41 rfl (i := 1) rfl (Nat.le_of_ble_eq_true rfl) rfl (L' := [(0, .ref o), (1, .int ((x4_lost_l4 (mt_now M) (mt_sold M) (mt_extraOf M) (mt_extraShock M) (mt_buyerOf M) (mt_buys M) (mt_part M) H K 0 j1) + ((x4_heldOf (mt_now M) H j1) * ((x4_priceBy (mt_now M) (mt_extraOf M) (mt_extraShock M) (mt_buyerOf M) (mt_buys M) (mt_part M) K j1 0) - (x4_priceBy (mt_now M) (mt_extraOf M) (mt_extraShock M) (mt_buyerOf M) (mt_buys M) (mt_part M) K j1 (mt_sold M j1)))))), (2, .int (nI j1))]) rfl ?_
        refine z_iinc hX dX4_lost_41 44 rfl 2 rfl (w := nI (j1 + 1)) (nI_1 j1) (Nat.le_of_ble_eq_true rfl) rfl (L' := [(0, .ref o), (1, .int ((x4_lost_l4 (mt_now M) (mt_sold M) (mt_extraOf M) (mt_extraShock M) (mt_buyerOf M) (mt_buys M) (mt_part M) H K 0 j1) + ((x4_heldOf (mt_now M) H j1) * ((x4_priceBy (mt_now M) (mt_extraOf M) (mt_extraShock M) (mt_buyerOf M) (mt_buys M) (mt_part M) K j1 0) - (x4_priceBy (mt_now M) (mt_extraOf M) (mt_extraShock M) (mt_buyerOf M) (mt_buys M) (mt_part M) K j1 (mt_sold M j1)))))), (2, .int (nI (j1 + 1)))]) rfl ?_
        refine z_goto hX dX4_lost_44 (tgt := 4) (by decide) ?_
        exact ih (j1 + 1) (by omega)
  exact Lp3 A 0 (by omega)
abbrev x4_isAsked (A : Nat) (w : Int32) : Prop := ((zin w 4) ∧ (zin (nI w.toNatClampNeg) A)) ∨ (¬ (zin w 4) ∧ (4 ≤ w ∧ w ≤ 7))
set_option maxHeartbeats 4000000 in
theorem met_X4_isAsked {g : Zg} (hG : zG g) {G : zHG} {o : Nat} {M : MT} (hM : zMo g G o M) {A H : Nat} {K : Nat → Nat} (hN : zWf (mt_now M) A H K) (w : Int32)    : ZM g yX4_isAsked cX4_isAsked 2 (some FieldType.boolean) 3 0 0 [.ref o, .int w] G (zRet (some (.int (if x4_isAsked A w then 1 else 0))) G) := by
  have hN2 := hN.2.1
  have hN4 := hN.2.2.2.1
  have hM : zMs g G G o M := zMs.rf hM
  refine ZM_mk hG (by decide) (Nat.le_of_ble_eq_true rfl) ?_
  intro X hX hname hQ
  show ZW g X 0 0 G 0 [(0, .ref o), (1, .int w)] []
  refine z_iload_n hX dX4_isAsked_0 1 rfl (i := 1) rfl 1 rfl ?_
  refine z_iconst hX dX4_isAsked_1 2 rfl zki_0 ?_
  refine z_iconst hX dX4_isAsked_2 3 rfl zki_3 ?_
  refine z_callSp hX cwX4_68 (w := .int (if zin w 4 then 1 else 0 : Int32)) (met_X4_isInz hG w 3 4 (by decide)) dX4_isAsked_3 6 rfl rfl rfl (Nat.le_of_ble_eq_true rfl) (by decide) ⟨Nat.zero_le _, Nat.zero_le _⟩ ?_
  have J2 : ZW g X 0 0 G 24 [(0, .ref o)] [.int (if ((zin w 4) ∧ (zin (nI w.toNatClampNeg) A)) ∨ (¬ (zin w 4) ∧ (4 ≤ w ∧ w ≤ 7)) then 1 else 0 : Int32)] := by
    exact z_zret hX hQ (Nat.zero_le _) (Nat.zero_le _) rfl (z_nb _) dX4_isAsked_24 ⟨rfl, rfl⟩
  refine z_if_eqP hX (zin w 4) dX4_isAsked_6 9 rfl (tgt := 17) (by decide) (fun c1 => ?_) (fun c1 => ?_)
  ·
    refine z_iload_n hX dX4_isAsked_17 18 rfl (i := 1) rfl 1 rfl ?_
    refine z_iconst hX dX4_isAsked_18 19 rfl zki_4 ?_
    refine z_bipush hX dX4_isAsked_19 21 rfl zkb_7 ?_
    refine z_callSp hX cwX4_68 (w := .int (if 4 ≤ w ∧ w ≤ 7 then 1 else 0 : Int32)) (met_X4_isIn hG w 4 7) dX4_isAsked_21 24 rfl rfl rfl (Nat.le_of_ble_eq_true rfl) (by decide) ⟨Nat.zero_le _, Nat.zero_le _⟩ ?_
    refine z_sub [0] rfl ?_
    exact z_eqL rfl (by first | (simp only [if_neg c1] <;> rfl; done) | grind) J2
  ·
    have e_w := zin_eq c1
    have l_w := zin_lt c1
    refine z_eqL (L' := [(0, .ref o), (1, .int (nI w.toNatClampNeg))]) (st' := []) (by rw [← e_w]) (by first | rfl | rw [← e_w]) ?_
    refine z_aload_n hX dX4_isAsked_9 10 rfl (i := 0) rfl 0 rfl ?_
    refine z_iload_n hX dX4_isAsked_10 11 rfl (i := 1) rfl 1 rfl ?_
    refine z_callVp hX cwX4_224 (w := .int (if zin (nI w.toNatClampNeg) A then 1 else 0 : Int32)) (met_X4_isAsset hG hM.1 hN (nI w.toNatClampNeg)) hM.1.o rfl rfl dX4_isAsked_11 14 rfl rfl rfl (Nat.le_of_ble_eq_true rfl) (by decide) ⟨Nat.zero_le _, Nat.zero_le _⟩ ?_
    refine z_goto hX dX4_isAsked_14 (tgt := 24) (by decide) ?_
    refine z_sub [0] rfl ?_
    exact z_eqL rfl (by first | (simp only [if_pos c1] <;> rfl; done) | grind) J2
def x4_panic_l2 (m_now : Nat → Int32) (m_extraOf : Int32) (m_extraCap : Int32) (A : Nat) (H : Nat) (K : Nat → Nat) (ini : Nat → Int32) (k : Nat) : Nat → Int32 := zfold k (fun j1 cj1 => upd cj1 j1 (if A ≤ j1 then (if A ≤ j1 then 0 else x4_heldOf (m_now) H j1 : Int32) else (if (if A ≤ j1 then 0 else x4_heldOf (m_now) H j1 : Int32) ≤ (x4_capOf (m_now) (m_extraOf) (m_extraCap) K j1) then (if A ≤ j1 then 0 else x4_heldOf (m_now) H j1 : Int32) else x4_capOf (m_now) (m_extraOf) (m_extraCap) K j1 : Int32) : Int32)) ini
theorem x4_panic_l2_0 (m_now : Nat → Int32) (m_extraOf : Int32) (m_extraCap : Int32) (A : Nat) (H : Nat) (K : Nat → Nat) (ini : Nat → Int32) : x4_panic_l2 m_now m_extraOf m_extraCap A H K ini 0 = ini := (zfold_0 _ _).trans (Eq.refl _)
def x4_panic_sold (m_now : Nat → Int32) (m_sold : Nat → Int32) (m_extraOf : Int32) (m_extraCap : Int32) (A : Nat) (H : Nat) (K : Nat → Nat) : Nat → Int32 := x4_panic_l2 (m_now) (m_extraOf) (m_extraCap) A H K (m_sold) 4
def x4_panic_fallen (H : Nat) : Int32 := ((1 : Int32) <<< ((nI H) &&& 31)) - 1
set_option maxHeartbeats 4000000 in
theorem met_X4_panic {g : Zg} (hG : zG g) {G0 : zHG} {o : Nat} {M : MT} (hM : zMo g G0 o M) {A H : Nat} {K : Nat → Nat} (hN : zWf (mt_now M) A H K)     : ZM g yX4_panic cX4_panic 3 none 5 0 0 [.ref o] G0 (fun r G' => r = none ∧ zMs g G0 G' o (ms_fallen (ms_sold M (x4_panic_sold (mt_now M) (mt_sold M) (mt_extraOf M) (mt_extraCap M) A H K)) (x4_panic_fallen H))) := by
  unfold x4_panic_sold x4_panic_fallen
  have hN2 := hN.2.1
  have hN4 := hN.2.2.2.1
  refine ZM_mk hG (by decide) (Nat.le_of_ble_eq_true rfl) ?_
  intro X hX hname hQ
  obtain ⟨G, hGe⟩ : ∃ z, z = G0 := ⟨_, rfl⟩
  have hM : zMs g G0 G o M := by rw [hGe]; exact zMs.rf hM
  show ZW g X 0 0 G0 0 [(0, .ref o)] []
  rw [← hGe]
  refine z_iconst hX dX4_panic_0 1 rfl zki_0 ?_
  refine z_istore_n hX dX4_panic_1 2 rfl (i := 1) rfl (Nat.le_of_ble_eq_true rfl) rfl (L' := [(0, .ref o), (1, .int 0)]) rfl ?_
  have E2 : ∀ G : zHG, zMs g G0 G o (ms_sold M (x4_panic_l2 (mt_now M) (mt_extraOf M) (mt_extraCap M) A H K (mt_sold M) 4)) → ZW g X 0 0 G 67 [(0, .ref o), (1, .int (nI 4))] [] := by
    intro G hM
    refine z_aload_n hX dX4_panic_67 68 rfl (i := 0) rfl 0 rfl ?_
    refine z_iconst hX dX4_panic_68 69 rfl zki_1 ?_
    refine z_aload_n hX dX4_panic_69 70 rfl (i := 0) rfl 0 rfl ?_
    refine z_getf hX fX4_7 hM.1.o dX4_panic_70 73 rfl (x := .ref (o + 1)) rfl ?_
    refine z_iconst hX dX4_panic_73 74 rfl zki_1 ?_
    refine m_ald_now hX hM 1 (by omega) dX4_panic_74 75 rfl (w := nI H) ((congrFun (mg_now_sold _ _) 1).trans hN.2.2.1) ?_
    refine z_ishl hX dX4_panic_75 76 rfl (w := (1 : Int32) <<< ((nI H) &&& 31)) rfl ?_
    refine z_iconst hX dX4_panic_76 77 rfl zki_1 ?_
    refine z_isub hX dX4_panic_77 78 rfl (w := ((1 : Int32) <<< ((nI H) &&& 31)) - 1) rfl ?_
    refine m_put_fallen hX hM fX4_184 dX4_panic_78 81 rfl (fun G hM => ?_)
    have hM : zMs g G0 G o (ms_fallen (ms_sold M (x4_panic_l2 (mt_now M) (mt_extraOf M) (mt_extraCap M) A H K (mt_sold M) 4)) (((1 : Int32) <<< ((nI H) &&& 31)) - 1)) := hM
    exact z_vret hX hQ (Nat.zero_le _) (Nat.zero_le _) rfl dX4_panic_81 ⟨rfl, hM⟩
  have Lp3 : ∀ k j1 : Nat, j1 + k = 4 → ∀ G : zHG, zMs g G0 G o (ms_sold M (x4_panic_l2 (mt_now M) (mt_extraOf M) (mt_extraCap M) A H K (mt_sold M) j1)) → ZW g X 0 0 G 2 [(0, .ref o), (1, .int (nI j1))] [] := by
    intro k
    induction k with
    | zero =>
      intro j1 hj1 G hM
      rw [show j1 = 4 from by omega] at hM ⊢
      refine z_iload_n hX dX4_panic_2 3 rfl (i := 1) rfl 1 rfl ?_
      refine z_iconst hX dX4_panic_3 4 rfl zki_4 ?_
      refine z_icmp_geN hX 4 4 (by omega) (by omega) dX4_panic_4 7 rfl (tgt := 67) (by decide) (fun c4 => ?_) (fun c4 => ?_)
      · exact E2 _ hM
      · exact absurd c4 (by omega)
    | succ k ih =>
      intro j1 hj1 G hM
      refine z_iload_n hX dX4_panic_2 3 rfl (i := 1) rfl 1 rfl ?_
      refine z_iconst hX dX4_panic_3 4 rfl zki_4 ?_
      refine z_icmp_geN hX j1 4 (by omega) (by omega) dX4_panic_4 7 rfl (tgt := 67) (by decide) (fun c5 => ?_) (fun c5 => ?_)
      · exact absurd c5 (by omega)
      ·
        refine z_iload_n hX dX4_panic_7 8 rfl (i := 1) rfl 1 rfl ?_
        refine z_aload_n hX dX4_panic_8 9 rfl (i := 0) rfl 0 rfl ?_
        refine z_getf hX fX4_7 hM.1.o dX4_panic_9 12 rfl (x := .ref (o + 1)) rfl ?_
        refine z_iconst hX dX4_panic_12 13 rfl zki_0 ?_
        refine m_ald_now hX hM 0 (by omega) dX4_panic_13 14 rfl (w := nI A) ((congrFun (mg_now_sold _ _) 0).trans hN.1) ?_
        have J7 : ZW g X 0 0 G 26 [(0, .ref o), (1, .int (nI j1))] [.int (if A ≤ j1 then 0 else x4_heldOf (mt_now M) H j1 : Int32)] := by
          refine z_istore_n hX dX4_panic_26 27 rfl (i := 2) rfl (Nat.le_of_ble_eq_true rfl) rfl (L' := [(0, .ref o), (1, .int (nI j1)), (2, .int (if A ≤ j1 then 0 else x4_heldOf (mt_now M) H j1 : Int32))]) rfl ?_
          refine z_aload_n hX dX4_panic_27 28 rfl (i := 0) rfl 0 rfl ?_
          refine z_getf hX fX4_22 hM.1.o dX4_panic_28 31 rfl (x := .ref (o + 5)) rfl ?_
          refine z_iload_n hX dX4_panic_31 32 rfl (i := 1) rfl 1 rfl ?_
          refine z_iload_n hX dX4_panic_32 33 rfl (i := 1) rfl 1 rfl ?_
          refine z_aload_n hX dX4_panic_33 34 rfl (i := 0) rfl 0 rfl ?_
          refine z_getf hX fX4_7 hM.1.o dX4_panic_34 37 rfl (x := .ref (o + 1)) rfl ?_
          refine z_iconst hX dX4_panic_37 38 rfl zki_0 ?_
          refine m_ald_now hX hM 0 (by omega) dX4_panic_38 39 rfl (w := nI A) ((congrFun (mg_now_sold _ _) 0).trans hN.1) ?_
          have J9 : ZW g X 0 0 G 60 [(0, .ref o), (1, .int (nI j1)), (2, .int (if A ≤ j1 then 0 else x4_heldOf (mt_now M) H j1 : Int32))] [.int (if A ≤ j1 then (if A ≤ j1 then 0 else x4_heldOf (mt_now M) H j1 : Int32) else (if (if A ≤ j1 then 0 else x4_heldOf (mt_now M) H j1 : Int32) ≤ (x4_capOf (mt_now M) (mt_extraOf M) (mt_extraCap M) K j1) then (if A ≤ j1 then 0 else x4_heldOf (mt_now M) H j1 : Int32) else x4_capOf (mt_now M) (mt_extraOf M) (mt_extraCap M) K j1 : Int32) : Int32), .int (nI j1), .ref (o + 5)] := by
            refine m_ast_sold hX hM j1 (by omega) dX4_panic_60 61 rfl (fun G hM => ?_)
            have hM : zMs g G0 G o (ms_sold M (upd (x4_panic_l2 (mt_now M) (mt_extraOf M) (mt_extraCap M) A H K (mt_sold M) j1) j1 (if A ≤ j1 then (if A ≤ j1 then 0 else x4_heldOf (mt_now M) H j1 : Int32) else (if (if A ≤ j1 then 0 else x4_heldOf (mt_now M) H j1 : Int32) ≤ (x4_capOf (mt_now M) (mt_extraOf M) (mt_extraCap M) K j1) then (if A ≤ j1 then 0 else x4_heldOf (mt_now M) H j1 : Int32) else x4_capOf (mt_now M) (mt_extraOf M) (mt_extraCap M) K j1 : Int32) : Int32))) := by simpa only [mgs_sold, mm_sold] using hM
            refine z_iinc hX dX4_panic_61 64 rfl 1 rfl (w := nI (j1 + 1)) (nI_1 j1) (Nat.le_of_ble_eq_true rfl) rfl (L' := [(0, .ref o), (1, .int (nI (j1 + 1))), (2, .int (if A ≤ j1 then 0 else x4_heldOf (mt_now M) H j1 : Int32))]) rfl ?_
            refine z_goto hX dX4_panic_64 (tgt := 2) (by decide) ?_
            refine z_sub [0, 1] rfl ?_
            exact ih (j1 + 1) (by omega) _ hM
          refine z_icmp_geN hX j1 A (by omega) (by omega) dX4_panic_39 42 rfl (tgt := 59) (by decide) (fun c8 => ?_) (fun c8 => ?_)
          ·
            refine z_iload_n hX dX4_panic_59 60 rfl (i := 2) rfl 2 rfl ?_
            exact z_eqL rfl (by first | (simp only [if_pos c8] <;> rfl; done) | grind) J9
          ·
            refine z_aload_n hX dX4_panic_42 43 rfl (i := 0) rfl 0 rfl ?_
            refine z_iload_n hX dX4_panic_43 44 rfl (i := 1) rfl 1 rfl ?_
            refine z_callVq hX cwX4_202 (w := .int (x4_capOf (mt_now M) (mt_extraOf M) (mt_extraCap M) K j1)) (met_X4_capOf hG hM.1 (zWf_eq (mg_now_sold _ _) hN) j1 (by omega)) (by simp only [mg_now_sold, mg_extraOf_sold, mg_extraCap_sold]) hM.1.o rfl rfl dX4_panic_44 47 rfl rfl rfl (Nat.le_of_ble_eq_true rfl) (by decide) ⟨Nat.zero_le _, Nat.zero_le _⟩ ?_
            refine z_iload_n hX dX4_panic_47 48 rfl (i := 2) rfl 2 rfl ?_
            refine z_icmp_ge hX dX4_panic_48 51 rfl (tgt := 59) (by decide) (fun c10 => ?_) (fun c10 => ?_)
            ·
              refine z_iload_n hX dX4_panic_59 60 rfl (i := 2) rfl 2 rfl ?_
              exact z_eqL rfl (by first | (simp only [if_neg (Nat.not_le.mpr c8), if_pos c10] <;> rfl; done) | grind) J9
            ·
              refine z_aload_n hX dX4_panic_51 52 rfl (i := 0) rfl 0 rfl ?_
              refine z_iload_n hX dX4_panic_52 53 rfl (i := 1) rfl 1 rfl ?_
              refine z_callVq hX cwX4_202 (w := .int (x4_capOf (mt_now M) (mt_extraOf M) (mt_extraCap M) K j1)) (met_X4_capOf hG hM.1 (zWf_eq (mg_now_sold _ _) hN) j1 (by omega)) (by simp only [mg_now_sold, mg_extraOf_sold, mg_extraCap_sold]) hM.1.o rfl rfl dX4_panic_53 56 rfl rfl rfl (Nat.le_of_ble_eq_true rfl) (by decide) ⟨Nat.zero_le _, Nat.zero_le _⟩ ?_
              refine z_goto hX dX4_panic_56 (tgt := 60) (by decide) ?_
              exact z_eqL rfl (by first | (simp only [if_neg (Nat.not_le.mpr c8), if_neg c10] <;> rfl; done) | grind) J9
        refine z_icmp_geN hX j1 A (by omega) (by omega) dX4_panic_14 17 rfl (tgt := 25) (by decide) (fun c6 => ?_) (fun c6 => ?_)
        ·
          refine z_iconst hX dX4_panic_25 26 rfl zki_0 ?_
          exact z_eqL rfl (by first | (simp only [if_pos c6] <;> rfl; done) | grind) J7
        ·
          refine z_aload_n hX dX4_panic_17 18 rfl (i := 0) rfl 0 rfl ?_
          refine z_iload_n hX dX4_panic_18 19 rfl (i := 1) rfl 1 rfl ?_
          refine z_callVq hX cwX4_205 (w := .int (x4_heldOf (mt_now M) H j1)) (met_X4_heldOf hG hM.1 (zWf_eq (mg_now_sold _ _) hN) j1 (by omega)) (by simp only [mg_now_sold]) hM.1.o rfl rfl dX4_panic_19 22 rfl rfl rfl (Nat.le_of_ble_eq_true rfl) (by decide) ⟨Nat.zero_le _, Nat.zero_le _⟩ ?_
          refine z_goto hX dX4_panic_22 (tgt := 26) (by decide) ?_
          exact z_eqL rfl (by first | (simp only [if_neg (Nat.not_le.mpr c6)] <;> rfl; done) | grind) J7
  have hM : zMs g G0 G o (ms_sold M (x4_panic_l2 (mt_now M) (mt_extraOf M) (mt_extraCap M) A H K (mt_sold M) 0)) := by simpa only [x4_panic_l2_0, me_sold, mm_sold] using hM
  exact Lp3 4 0 (by omega) _ hM
