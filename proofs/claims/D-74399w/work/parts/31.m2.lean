set_option maxRecDepth 100000
def x4_capNow_l14 (m_now : Nat → Int32) (a : Nat) (j1 : Nat) (ini : Int32) (k : Nat) : Int32 := zfold k (fun j3 cj3 => (if (m_now (100 + (13 * j1) + 1 + (3 * j3) + 0)) = 0 then (if (m_now (100 + (13 * j1) + 1 + (3 * j3) + 1)) = (nI a) then (if cj3 ≤ (m_now (100 + (13 * j1) + 1 + (3 * j3) + 2)) then cj3 else m_now (100 + (13 * j1) + 1 + (3 * j3) + 2) : Int32) else cj3 : Int32) else cj3 : Int32)) ini
theorem x4_capNow_l14_0 (m_now : Nat → Int32) (a : Nat) (j1 : Nat) (ini : Int32) : x4_capNow_l14 m_now a j1 ini 0 = ini := (zfold_0 _ _).trans (Eq.refl _)
def x4_capNow_l6 (m_now : Nat → Int32) (K : Nat → Nat) (a : Nat) (ini : Int32) (k : Nat) : Int32 := zfold k (fun j1 cj1 => x4_capNow_l14 (m_now) a j1 cj1 (K j1)) ini
theorem x4_capNow_l6_0 (m_now : Nat → Int32) (K : Nat → Nat) (a : Nat) (ini : Int32) : x4_capNow_l6 m_now K a ini 0 = ini := (zfold_0 _ _).trans (Eq.refl _)
def x4_capNow (m_now : Nat → Int32) (K : Nat → Nat) (a : Nat) : Int32 := x4_capNow_l6 (m_now) K a 360 3
set_option maxHeartbeats 4000000 in
theorem met_X4_capNow {g : Zg} (hG : zG g) {G : zHG} {o : Nat} {M : MT} (hM : zMo g G o M) {A H : Nat} {K : Nat → Nat} (hN : zWf (mt_now M) A H K) (a : Nat)  (h_a : a < 4)  : ZM g yX4_capNow cX4_capNow 5 (some FieldType.int) 2 0 0 [.ref o, .int (nI a)] G (zRet (some (.int (x4_capNow (mt_now M) K a))) G) := by
  unfold x4_capNow
  have hN2 := hN.2.1
  have hN4 := hN.2.2.2.1
  have hM : zMs g G G o M := zMs.rf hM
  refine ZM_mk hG (by decide) (Nat.le_of_ble_eq_true rfl) ?_
  intro X hX hname hQ
  show ZW g X 0 0 G 0 [(0, .ref o), (1, .int (nI a))] []
  refine z_sipush hX dX4_capNow_0 3 rfl zks_360 ?_
  refine z_istore_n hX dX4_capNow_3 4 rfl (i := 2) rfl (Nat.le_of_ble_eq_true rfl) rfl (L' := [(0, .ref o), (1, .int (nI a)), (2, .int 360)]) rfl ?_
  refine z_iconst hX dX4_capNow_4 5 rfl zki_0 ?_
  refine z_istore_n hX dX4_capNow_5 6 rfl (i := 3) rfl (Nat.le_of_ble_eq_true rfl) rfl (L' := [(0, .ref o), (1, .int (nI a)), (2, .int 360), (3, .int 0)]) rfl ?_
  have E2 : ZW g X 0 0 G 87 [(0, .ref o), (1, .int (nI a)), (2, .int (x4_capNow_l6 (mt_now M) K a 360 3)), (3, .int (nI 3))] [] := by
    refine z_iload_n hX dX4_capNow_87 88 rfl (i := 2) rfl 2 rfl ?_
    exact z_iret hX hQ (Nat.zero_le _) (Nat.zero_le _) rfl dX4_capNow_88 ⟨rfl, rfl⟩
  have Lp3 : ∀ k j1 : Nat, j1 + k = 3 → ZW g X 0 0 G 6 [(0, .ref o), (1, .int (nI a)), (2, .int (x4_capNow_l6 (mt_now M) K a 360 j1)), (3, .int (nI j1))] [] := by
    intro k
    induction k with
    | zero =>
      intro j1 hj1
      rw [show j1 = 3 from by omega]
      refine z_iload_n hX dX4_capNow_6 7 rfl (i := 3) rfl 3 rfl ?_
      refine z_iconst hX dX4_capNow_7 8 rfl zki_3 ?_
      refine z_icmp_geN hX 3 3 (by omega) (by omega) dX4_capNow_8 11 rfl (tgt := 87) (by decide) (fun c4 => ?_) (fun c4 => ?_)
      · exact E2
      · exact absurd c4 (by omega)
    | succ k ih =>
      intro j1 hj1
      refine z_iload_n hX dX4_capNow_6 7 rfl (i := 3) rfl 3 rfl ?_
      refine z_iconst hX dX4_capNow_7 8 rfl zki_3 ?_
      refine z_icmp_geN hX j1 3 (by omega) (by omega) dX4_capNow_8 11 rfl (tgt := 87) (by decide) (fun c5 => ?_) (fun c5 => ?_)
      · exact absurd c5 (by omega)
      ·
        refine z_iconst hX dX4_capNow_11 12 rfl zki_0 ?_
        refine z_istore hX dX4_capNow_12 14 rfl (Nat.le_of_ble_eq_true rfl) rfl (L' := [(0, .ref o), (1, .int (nI a)), (2, .int (x4_capNow_l6 (mt_now M) K a 360 j1)), (3, .int (nI j1)), (4, .int 0)]) rfl ?_
        have E7 : ZW g X 0 0 G 81 [(0, .ref o), (1, .int (nI a)), (2, .int (x4_capNow_l14 (mt_now M) a j1 (x4_capNow_l6 (mt_now M) K a 360 j1) (K j1))), (3, .int (nI j1)), (4, .int (nI (K j1)))] [] := by
          refine z_iinc hX dX4_capNow_81 84 rfl 3 rfl (w := nI (j1 + 1)) (nI_1 j1) (Nat.le_of_ble_eq_true rfl) rfl (L' := [(0, .ref o), (1, .int (nI a)), (2, .int (x4_capNow_l14 (mt_now M) a j1 (x4_capNow_l6 (mt_now M) K a 360 j1) (K j1))), (3, .int (nI (j1 + 1))), (4, .int (nI (K j1)))]) rfl ?_
          refine z_goto hX dX4_capNow_84 (tgt := 6) (by decide) ?_
          refine z_sub [0, 1, 2, 3] rfl ?_
          exact ih (j1 + 1) (by omega)
        have Lp8 : ∀ k j6 : Nat, j6 + k = K j1 → ZW g X 0 0 G 14 [(0, .ref o), (1, .int (nI a)), (2, .int (x4_capNow_l14 (mt_now M) a j1 (x4_capNow_l6 (mt_now M) K a 360 j1) j6)), (3, .int (nI j1)), (4, .int (nI j6))] [] := by
          intro k
          induction k with
          | zero =>
            intro j6 hj6
            rw [show j6 = K j1 from by omega]
            refine z_iload hX dX4_capNow_14 16 rfl 4 rfl ?_
            refine z_aload_n hX dX4_capNow_16 17 rfl (i := 0) rfl 0 rfl ?_
            refine z_getf hX fX4_7 hM.1.o dX4_capNow_17 20 rfl (x := .ref (o + 1)) rfl ?_
            refine z_bipush hX dX4_capNow_20 22 rfl zkb_100 ?_
            refine z_bipush hX dX4_capNow_22 24 rfl zkb_13 ?_
            refine z_iload_n hX dX4_capNow_24 25 rfl (i := 3) rfl 3 rfl ?_
            refine z_imul hX dX4_capNow_25 26 rfl (w := nI (13 * j1)) (pk_mul 13 j1) ?_
            refine z_iadd hX dX4_capNow_26 27 rfl (w := nI (100 + (13 * j1))) (nI_add 100 (13 * j1)) ?_
            have hKj1 := (hN.2.2.2.2.1 j1 (by omega)).2
            refine m_ald_now hX hM (100 + (13 * j1)) (by omega) dX4_capNow_27 28 rfl (w := nI (K j1)) (hN.2.2.2.2.1 j1 (by omega)).1 ?_
            refine z_icmp_geN hX (K j1) (K j1) (by omega) (by omega) dX4_capNow_28 31 rfl (tgt := 81) (by decide) (fun c9 => ?_) (fun c9 => ?_)
            · exact E7
            · exact absurd c9 (by omega)
          | succ k ih =>
            intro j6 hj6
            refine z_iload hX dX4_capNow_14 16 rfl 4 rfl ?_
            refine z_aload_n hX dX4_capNow_16 17 rfl (i := 0) rfl 0 rfl ?_
            refine z_getf hX fX4_7 hM.1.o dX4_capNow_17 20 rfl (x := .ref (o + 1)) rfl ?_
            refine z_bipush hX dX4_capNow_20 22 rfl zkb_100 ?_
            refine z_bipush hX dX4_capNow_22 24 rfl zkb_13 ?_
            refine z_iload_n hX dX4_capNow_24 25 rfl (i := 3) rfl 3 rfl ?_
            refine z_imul hX dX4_capNow_25 26 rfl (w := nI (13 * j1)) (pk_mul 13 j1) ?_
            refine z_iadd hX dX4_capNow_26 27 rfl (w := nI (100 + (13 * j1))) (nI_add 100 (13 * j1)) ?_
            have hKj1 := (hN.2.2.2.2.1 j1 (by omega)).2
            refine m_ald_now hX hM (100 + (13 * j1)) (by omega) dX4_capNow_27 28 rfl (w := nI (K j1)) (hN.2.2.2.2.1 j1 (by omega)).1 ?_
            refine z_icmp_geN hX j6 (K j1) (by omega) (by omega) dX4_capNow_28 31 rfl (tgt := 81) (by decide) (fun c10 => ?_) (fun c10 => ?_)
            · exact absurd c10 (by omega)
            ·
              refine z_aload_n hX dX4_capNow_31 32 rfl (i := 0) rfl 0 rfl ?_
              refine z_iload_n hX dX4_capNow_32 33 rfl (i := 3) rfl 3 rfl ?_
              refine z_iload hX dX4_capNow_33 35 rfl 4 rfl ?_
              refine z_iconst hX dX4_capNow_35 36 rfl zki_0 ?_
              refine z_callVp hX cwX4_155 (w := .int (mt_now M (100 + (13 * j1) + 1 + (3 * j6) + 0))) (met_X4_laidOf hG hM.1 j1 j6 0 (by omega) (by omega) (by omega)) hM.1.o rfl rfl dX4_capNow_36 39 rfl rfl rfl (Nat.le_of_ble_eq_true rfl) (by decide) ⟨Nat.zero_le _, Nat.zero_le _⟩ ?_
              have J12 : ZW g X 0 0 G 75 [(0, .ref o), (1, .int (nI a)), (2, .int (if (mt_now M (100 + (13 * j1) + 1 + (3 * j6) + 0)) = 0 then (if (mt_now M (100 + (13 * j1) + 1 + (3 * j6) + 1)) = (nI a) then (if (x4_capNow_l14 (mt_now M) a j1 (x4_capNow_l6 (mt_now M) K a 360 j1) j6) ≤ (mt_now M (100 + (13 * j1) + 1 + (3 * j6) + 2)) then x4_capNow_l14 (mt_now M) a j1 (x4_capNow_l6 (mt_now M) K a 360 j1) j6 else mt_now M (100 + (13 * j1) + 1 + (3 * j6) + 2) : Int32) else x4_capNow_l14 (mt_now M) a j1 (x4_capNow_l6 (mt_now M) K a 360 j1) j6 : Int32) else x4_capNow_l14 (mt_now M) a j1 (x4_capNow_l6 (mt_now M) K a 360 j1) j6 : Int32)), (3, .int (nI j1)), (4, .int (nI j6))] [] := by
                refine z_iinc hX dX4_capNow_75 78 rfl 4 rfl (w := nI (j6 + 1)) (nI_1 j6) (Nat.le_of_ble_eq_true rfl) rfl (L' := [(0, .ref o), (1, .int (nI a)), (2, .int (if (mt_now M (100 + (13 * j1) + 1 + (3 * j6) + 0)) = 0 then (if (mt_now M (100 + (13 * j1) + 1 + (3 * j6) + 1)) = (nI a) then (if (x4_capNow_l14 (mt_now M) a j1 (x4_capNow_l6 (mt_now M) K a 360 j1) j6) ≤ (mt_now M (100 + (13 * j1) + 1 + (3 * j6) + 2)) then x4_capNow_l14 (mt_now M) a j1 (x4_capNow_l6 (mt_now M) K a 360 j1) j6 else mt_now M (100 + (13 * j1) + 1 + (3 * j6) + 2) : Int32) else x4_capNow_l14 (mt_now M) a j1 (x4_capNow_l6 (mt_now M) K a 360 j1) j6 : Int32) else x4_capNow_l14 (mt_now M) a j1 (x4_capNow_l6 (mt_now M) K a 360 j1) j6 : Int32)), (3, .int (nI j1)), (4, .int (nI (j6 + 1)))]) rfl ?_
                refine z_goto hX dX4_capNow_78 (tgt := 14) (by decide) ?_
                exact ih (j6 + 1) (by omega)
              refine z_if_ne hX dX4_capNow_39 42 rfl (tgt := 75) (by decide) (fun c11 => ?_) (fun c11 => ?_)
              ·
                exact z_eqL (by first | (simp only [if_neg c11] <;> rfl; done) | grind) rfl J12
              ·
                refine z_aload_n hX dX4_capNow_42 43 rfl (i := 0) rfl 0 rfl ?_
                refine z_iload_n hX dX4_capNow_43 44 rfl (i := 3) rfl 3 rfl ?_
                refine z_iload hX dX4_capNow_44 46 rfl 4 rfl ?_
                refine z_iconst hX dX4_capNow_46 47 rfl zki_1 ?_
                refine z_callVp hX cwX4_155 (w := .int (mt_now M (100 + (13 * j1) + 1 + (3 * j6) + 1))) (met_X4_laidOf hG hM.1 j1 j6 1 (by omega) (by omega) (by omega)) hM.1.o rfl rfl dX4_capNow_47 50 rfl rfl rfl (Nat.le_of_ble_eq_true rfl) (by decide) ⟨Nat.zero_le _, Nat.zero_le _⟩ ?_
                refine z_iload_n hX dX4_capNow_50 51 rfl (i := 1) rfl 1 rfl ?_
                refine z_icmp_ne hX dX4_capNow_51 54 rfl (tgt := 75) (by decide) (fun c13 => ?_) (fun c13 => ?_)
                ·
                  exact z_eqL (by first | (simp only [if_pos c11, if_neg c13] <;> rfl; done) | grind) rfl J12
                ·
                  refine z_aload_n hX dX4_capNow_54 55 rfl (i := 0) rfl 0 rfl ?_
                  refine z_iload_n hX dX4_capNow_55 56 rfl (i := 3) rfl 3 rfl ?_
                  refine z_iload hX dX4_capNow_56 58 rfl 4 rfl ?_
                  refine z_iconst hX dX4_capNow_58 59 rfl zki_2 ?_
                  refine z_callVp hX cwX4_155 (w := .int (mt_now M (100 + (13 * j1) + 1 + (3 * j6) + 2))) (met_X4_laidOf hG hM.1 j1 j6 2 (by omega) (by omega) (by omega)) hM.1.o rfl rfl dX4_capNow_59 62 rfl rfl rfl (Nat.le_of_ble_eq_true rfl) (by decide) ⟨Nat.zero_le _, Nat.zero_le _⟩ ?_
                  refine z_iload_n hX dX4_capNow_62 63 rfl (i := 2) rfl 2 rfl ?_
                  refine z_icmp_ge hX dX4_capNow_63 66 rfl (tgt := 75) (by decide) (fun c14 => ?_) (fun c14 => ?_)
                  ·
                    exact z_eqL (by first | (simp only [if_pos c11, if_pos c13, if_pos c14] <;> rfl; done) | grind) rfl J12
                  ·
                    refine z_aload_n hX dX4_capNow_66 67 rfl (i := 0) rfl 0 rfl ?_
                    refine z_iload_n hX dX4_capNow_67 68 rfl (i := 3) rfl 3 rfl ?_
                    refine z_iload hX dX4_capNow_68 70 rfl 4 rfl ?_
                    refine z_iconst hX dX4_capNow_70 71 rfl zki_2 ?_
                    refine z_callVp hX cwX4_155 (w := .int (mt_now M (100 + (13 * j1) + 1 + (3 * j6) + 2))) (met_X4_laidOf hG hM.1 j1 j6 2 (by omega) (by omega) (by omega)) hM.1.o rfl rfl dX4_capNow_71 74 rfl rfl rfl (Nat.le_of_ble_eq_true rfl) (by decide) ⟨Nat.zero_le _, Nat.zero_le _⟩ ?_
                    refine z_istore_n hX dX4_capNow_74 75 rfl (i := 2) rfl (Nat.le_of_ble_eq_true rfl) rfl (L' := [(0, .ref o), (1, .int (nI a)), (2, .int (mt_now M (100 + (13 * j1) + 1 + (3 * j6) + 2))), (3, .int (nI j1)), (4, .int (nI j6))]) rfl ?_
                    exact z_eqL (by first | (simp only [if_pos c11, if_pos c13, if_neg c14] <;> rfl; done) | grind) rfl J12
        exact Lp8 (K j1) 0 (by omega)
  exact Lp3 3 0 (by omega)
def x4_shockNow_l12 (m_now : Nat → Int32) (a : Nat) (j1 : Nat) (ini : Int32) (k : Nat) : Int32 := zfold k (fun j3 cj3 => cj3 + (if (m_now (100 + (13 * j1) + 1 + (3 * j3) + 0)) = 1 then (if (m_now (100 + (13 * j1) + 1 + (3 * j3) + 1)) = (nI a) then m_now (100 + (13 * j1) + 1 + (3 * j3) + 2) else 0 : Int32) else 0 : Int32)) ini
theorem x4_shockNow_l12_0 (m_now : Nat → Int32) (a : Nat) (j1 : Nat) (ini : Int32) : x4_shockNow_l12 m_now a j1 ini 0 = ini := (zfold_0 _ _).trans (Eq.refl _)
def x4_shockNow_l4 (m_now : Nat → Int32) (K : Nat → Nat) (a : Nat) (ini : Int32) (k : Nat) : Int32 := zfold k (fun j1 cj1 => x4_shockNow_l12 (m_now) a j1 cj1 (K j1)) ini
theorem x4_shockNow_l4_0 (m_now : Nat → Int32) (K : Nat → Nat) (a : Nat) (ini : Int32) : x4_shockNow_l4 m_now K a ini 0 = ini := (zfold_0 _ _).trans (Eq.refl _)
def x4_shockNow (m_now : Nat → Int32) (K : Nat → Nat) (a : Nat) : Int32 := x4_shockNow_l4 (m_now) K a 0 3
set_option maxHeartbeats 4000000 in
theorem met_X4_shockNow {g : Zg} (hG : zG g) {G : zHG} {o : Nat} {M : MT} (hM : zMo g G o M) {A H : Nat} {K : Nat → Nat} (hN : zWf (mt_now M) A H K) (a : Nat)  (h_a : a < 4)  : ZM g yX4_shockNow cX4_shockNow 5 (some FieldType.int) 2 0 0 [.ref o, .int (nI a)] G (zRet (some (.int (x4_shockNow (mt_now M) K a))) G) := by
  unfold x4_shockNow
  have hN2 := hN.2.1
  have hN4 := hN.2.2.2.1
  have hM : zMs g G G o M := zMs.rf hM
  refine ZM_mk hG (by decide) (Nat.le_of_ble_eq_true rfl) ?_
  intro X hX hname hQ
  show ZW g X 0 0 G 0 [(0, .ref o), (1, .int (nI a))] []
  refine z_iconst hX dX4_shockNow_0 1 rfl zki_0 ?_
  refine z_istore_n hX dX4_shockNow_1 2 rfl (i := 2) rfl (Nat.le_of_ble_eq_true rfl) rfl (L' := [(0, .ref o), (1, .int (nI a)), (2, .int 0)]) rfl ?_
  refine z_iconst hX dX4_shockNow_2 3 rfl zki_0 ?_
  refine z_istore_n hX dX4_shockNow_3 4 rfl (i := 3) rfl (Nat.le_of_ble_eq_true rfl) rfl (L' := [(0, .ref o), (1, .int (nI a)), (2, .int 0), (3, .int 0)]) rfl ?_
  have E2 : ZW g X 0 0 G 80 [(0, .ref o), (1, .int (nI a)), (2, .int (x4_shockNow_l4 (mt_now M) K a 0 3)), (3, .int (nI 3))] [] := by
    refine z_iload_n hX dX4_shockNow_80 81 rfl (i := 2) rfl 2 rfl ?_
    exact z_iret hX hQ (Nat.zero_le _) (Nat.zero_le _) rfl dX4_shockNow_81 ⟨rfl, rfl⟩
  have Lp3 : ∀ k j1 : Nat, j1 + k = 3 → ZW g X 0 0 G 4 [(0, .ref o), (1, .int (nI a)), (2, .int (x4_shockNow_l4 (mt_now M) K a 0 j1)), (3, .int (nI j1))] [] := by
    intro k
    induction k with
    | zero =>
      intro j1 hj1
      rw [show j1 = 3 from by omega]
      refine z_iload_n hX dX4_shockNow_4 5 rfl (i := 3) rfl 3 rfl ?_
      refine z_iconst hX dX4_shockNow_5 6 rfl zki_3 ?_
      refine z_icmp_geN hX 3 3 (by omega) (by omega) dX4_shockNow_6 9 rfl (tgt := 80) (by decide) (fun c4 => ?_) (fun c4 => ?_)
      · exact E2
      · exact absurd c4 (by omega)
    | succ k ih =>
      intro j1 hj1
      refine z_iload_n hX dX4_shockNow_4 5 rfl (i := 3) rfl 3 rfl ?_
      refine z_iconst hX dX4_shockNow_5 6 rfl zki_3 ?_
      refine z_icmp_geN hX j1 3 (by omega) (by omega) dX4_shockNow_6 9 rfl (tgt := 80) (by decide) (fun c5 => ?_) (fun c5 => ?_)
      · exact absurd c5 (by omega)
      ·
        refine z_iconst hX dX4_shockNow_9 10 rfl zki_0 ?_
        refine z_istore hX dX4_shockNow_10 12 rfl (Nat.le_of_ble_eq_true rfl) rfl (L' := [(0, .ref o), (1, .int (nI a)), (2, .int (x4_shockNow_l4 (mt_now M) K a 0 j1)), (3, .int (nI j1)), (4, .int 0)]) rfl ?_
        have E7 : ZW g X 0 0 G 74 [(0, .ref o), (1, .int (nI a)), (2, .int (x4_shockNow_l12 (mt_now M) a j1 (x4_shockNow_l4 (mt_now M) K a 0 j1) (K j1))), (3, .int (nI j1)), (4, .int (nI (K j1)))] [] := by
          refine z_iinc hX dX4_shockNow_74 77 rfl 3 rfl (w := nI (j1 + 1)) (nI_1 j1) (Nat.le_of_ble_eq_true rfl) rfl (L' := [(0, .ref o), (1, .int (nI a)), (2, .int (x4_shockNow_l12 (mt_now M) a j1 (x4_shockNow_l4 (mt_now M) K a 0 j1) (K j1))), (3, .int (nI (j1 + 1))), (4, .int (nI (K j1)))]) rfl ?_
          refine z_goto hX dX4_shockNow_77 (tgt := 4) (by decide) ?_
          refine z_sub [0, 1, 2, 3] rfl ?_
          exact ih (j1 + 1) (by omega)
        have Lp8 : ∀ k j6 : Nat, j6 + k = K j1 → ZW g X 0 0 G 12 [(0, .ref o), (1, .int (nI a)), (2, .int (x4_shockNow_l12 (mt_now M) a j1 (x4_shockNow_l4 (mt_now M) K a 0 j1) j6)), (3, .int (nI j1)), (4, .int (nI j6))] [] := by
          intro k
          induction k with
          | zero =>
            intro j6 hj6
            rw [show j6 = K j1 from by omega]
            refine z_iload hX dX4_shockNow_12 14 rfl 4 rfl ?_
            refine z_aload_n hX dX4_shockNow_14 15 rfl (i := 0) rfl 0 rfl ?_
            refine z_getf hX fX4_7 hM.1.o dX4_shockNow_15 18 rfl (x := .ref (o + 1)) rfl ?_
            refine z_bipush hX dX4_shockNow_18 20 rfl zkb_100 ?_
            refine z_bipush hX dX4_shockNow_20 22 rfl zkb_13 ?_
            refine z_iload_n hX dX4_shockNow_22 23 rfl (i := 3) rfl 3 rfl ?_
            refine z_imul hX dX4_shockNow_23 24 rfl (w := nI (13 * j1)) (pk_mul 13 j1) ?_
            refine z_iadd hX dX4_shockNow_24 25 rfl (w := nI (100 + (13 * j1))) (nI_add 100 (13 * j1)) ?_
            have hKj1 := (hN.2.2.2.2.1 j1 (by omega)).2
            refine m_ald_now hX hM (100 + (13 * j1)) (by omega) dX4_shockNow_25 26 rfl (w := nI (K j1)) (hN.2.2.2.2.1 j1 (by omega)).1 ?_
            refine z_icmp_geN hX (K j1) (K j1) (by omega) (by omega) dX4_shockNow_26 29 rfl (tgt := 74) (by decide) (fun c9 => ?_) (fun c9 => ?_)
            · exact E7
            · exact absurd c9 (by omega)
          | succ k ih =>
            intro j6 hj6
            refine z_iload hX dX4_shockNow_12 14 rfl 4 rfl ?_
            refine z_aload_n hX dX4_shockNow_14 15 rfl (i := 0) rfl 0 rfl ?_
            refine z_getf hX fX4_7 hM.1.o dX4_shockNow_15 18 rfl (x := .ref (o + 1)) rfl ?_
            refine z_bipush hX dX4_shockNow_18 20 rfl zkb_100 ?_
            refine z_bipush hX dX4_shockNow_20 22 rfl zkb_13 ?_
            refine z_iload_n hX dX4_shockNow_22 23 rfl (i := 3) rfl 3 rfl ?_
            refine z_imul hX dX4_shockNow_23 24 rfl (w := nI (13 * j1)) (pk_mul 13 j1) ?_
            refine z_iadd hX dX4_shockNow_24 25 rfl (w := nI (100 + (13 * j1))) (nI_add 100 (13 * j1)) ?_
            have hKj1 := (hN.2.2.2.2.1 j1 (by omega)).2
            refine m_ald_now hX hM (100 + (13 * j1)) (by omega) dX4_shockNow_25 26 rfl (w := nI (K j1)) (hN.2.2.2.2.1 j1 (by omega)).1 ?_
            refine z_icmp_geN hX j6 (K j1) (by omega) (by omega) dX4_shockNow_26 29 rfl (tgt := 74) (by decide) (fun c10 => ?_) (fun c10 => ?_)
            · exact absurd c10 (by omega)
            ·
              refine z_iload_n hX dX4_shockNow_29 30 rfl (i := 2) rfl 2 rfl ?_
              refine z_aload_n hX dX4_shockNow_30 31 rfl (i := 0) rfl 0 rfl ?_
              refine z_iload_n hX dX4_shockNow_31 32 rfl (i := 3) rfl 3 rfl ?_
              refine z_iload hX dX4_shockNow_32 34 rfl 4 rfl ?_
              refine z_iconst hX dX4_shockNow_34 35 rfl zki_0 ?_
              refine z_callVp hX cwX4_155 (w := .int (mt_now M (100 + (13 * j1) + 1 + (3 * j6) + 0))) (met_X4_laidOf hG hM.1 j1 j6 0 (by omega) (by omega) (by omega)) hM.1.o rfl rfl dX4_shockNow_35 38 rfl rfl rfl (Nat.le_of_ble_eq_true rfl) (by decide) ⟨Nat.zero_le _, Nat.zero_le _⟩ ?_
              refine z_iconst hX dX4_shockNow_38 39 rfl zki_1 ?_
              have J12 : ZW g X 0 0 G 66 [(0, .ref o), (1, .int (nI a)), (2, .int (x4_shockNow_l12 (mt_now M) a j1 (x4_shockNow_l4 (mt_now M) K a 0 j1) j6)), (3, .int (nI j1)), (4, .int (nI j6))] [.int (if (mt_now M (100 + (13 * j1) + 1 + (3 * j6) + 0)) = 1 then (if (mt_now M (100 + (13 * j1) + 1 + (3 * j6) + 1)) = (nI a) then mt_now M (100 + (13 * j1) + 1 + (3 * j6) + 2) else 0 : Int32) else 0 : Int32), .int (x4_shockNow_l12 (mt_now M) a j1 (x4_shockNow_l4 (mt_now M) K a 0 j1) j6)] := by
                refine z_iadd hX dX4_shockNow_66 67 rfl (w := (x4_shockNow_l12 (mt_now M) a j1 (x4_shockNow_l4 (mt_now M) K a 0 j1) j6) + (if (mt_now M (100 + (13 * j1) + 1 + (3 * j6) + 0)) = 1 then (if (mt_now M (100 + (13 * j1) + 1 + (3 * j6) + 1)) = (nI a) then mt_now M (100 + (13 * j1) + 1 + (3 * j6) + 2) else 0 : Int32) else 0 : Int32)) rfl ?_
                refine z_istore_n hX dX4_shockNow_67 68 rfl (i := 2) rfl (Nat.le_of_ble_eq_true rfl) rfl (L' := [(0, .ref o), (1, .int (nI a)), (2, .int ((x4_shockNow_l12 (mt_now M) a j1 (x4_shockNow_l4 (mt_now M) K a 0 j1) j6) + (if (mt_now M (100 + (13 * j1) + 1 + (3 * j6) + 0)) = 1 then (if (mt_now M (100 + (13 * j1) + 1 + (3 * j6) + 1)) = (nI a) then mt_now M (100 + (13 * j1) + 1 + (3 * j6) + 2) else 0 : Int32) else 0 : Int32))), (3, .int (nI j1)), (4, .int (nI j6))]) rfl ?_
                refine z_iinc hX dX4_shockNow_68 71 rfl 4 rfl (w := nI (j6 + 1)) (nI_1 j6) (Nat.le_of_ble_eq_true rfl) rfl (L' := [(0, .ref o), (1, .int (nI a)), (2, .int ((x4_shockNow_l12 (mt_now M) a j1 (x4_shockNow_l4 (mt_now M) K a 0 j1) j6) + (if (mt_now M (100 + (13 * j1) + 1 + (3 * j6) + 0)) = 1 then (if (mt_now M (100 + (13 * j1) + 1 + (3 * j6) + 1)) = (nI a) then mt_now M (100 + (13 * j1) + 1 + (3 * j6) + 2) else 0 : Int32) else 0 : Int32))), (3, .int (nI j1)), (4, .int (nI (j6 + 1)))]) rfl ?_
                refine z_goto hX dX4_shockNow_71 (tgt := 12) (by decide) ?_
                exact ih (j6 + 1) (by omega)
              refine z_icmp_ne hX dX4_shockNow_39 42 rfl (tgt := 65) (by decide) (fun c11 => ?_) (fun c11 => ?_)
              ·
                refine z_iconst hX dX4_shockNow_65 66 rfl zki_0 ?_
                exact z_eqL rfl (by first | (simp only [if_neg c11] <;> rfl; done) | grind) J12
              ·
                refine z_aload_n hX dX4_shockNow_42 43 rfl (i := 0) rfl 0 rfl ?_
                refine z_iload_n hX dX4_shockNow_43 44 rfl (i := 3) rfl 3 rfl ?_
                refine z_iload hX dX4_shockNow_44 46 rfl 4 rfl ?_
                refine z_iconst hX dX4_shockNow_46 47 rfl zki_1 ?_
                refine z_callVp hX cwX4_155 (w := .int (mt_now M (100 + (13 * j1) + 1 + (3 * j6) + 1))) (met_X4_laidOf hG hM.1 j1 j6 1 (by omega) (by omega) (by omega)) hM.1.o rfl rfl dX4_shockNow_47 50 rfl rfl rfl (Nat.le_of_ble_eq_true rfl) (by decide) ⟨Nat.zero_le _, Nat.zero_le _⟩ ?_
                refine z_iload_n hX dX4_shockNow_50 51 rfl (i := 1) rfl 1 rfl ?_
                refine z_icmp_ne hX dX4_shockNow_51 54 rfl (tgt := 65) (by decide) (fun c13 => ?_) (fun c13 => ?_)
                ·
                  refine z_iconst hX dX4_shockNow_65 66 rfl zki_0 ?_
                  exact z_eqL rfl (by first | (simp only [if_pos c11, if_neg c13] <;> rfl; done) | grind) J12
                ·
                  refine z_aload_n hX dX4_shockNow_54 55 rfl (i := 0) rfl 0 rfl ?_
                  refine z_iload_n hX dX4_shockNow_55 56 rfl (i := 3) rfl 3 rfl ?_
                  refine z_iload hX dX4_shockNow_56 58 rfl 4 rfl ?_
                  refine z_iconst hX dX4_shockNow_58 59 rfl zki_2 ?_
                  refine z_callVp hX cwX4_155 (w := .int (mt_now M (100 + (13 * j1) + 1 + (3 * j6) + 2))) (met_X4_laidOf hG hM.1 j1 j6 2 (by omega) (by omega) (by omega)) hM.1.o rfl rfl dX4_shockNow_59 62 rfl rfl rfl (Nat.le_of_ble_eq_true rfl) (by decide) ⟨Nat.zero_le _, Nat.zero_le _⟩ ?_
                  refine z_goto hX dX4_shockNow_62 (tgt := 66) (by decide) ?_
                  exact z_eqL rfl (by first | (simp only [if_pos c11, if_pos c13] <;> rfl; done) | grind) J12
        exact Lp8 (K j1) 0 (by omega)
  exact Lp3 3 0 (by omega)
def x4_capOf (m_now : Nat → Int32) (m_extraOf : Int32) (m_extraCap : Int32) (K : Nat → Nat) (a : Nat) : Int32 := (if (nI a) = (m_extraOf) then (if (x4_capNow (m_now) K a) ≤ (m_extraCap) then x4_capNow (m_now) K a else m_extraCap : Int32) else x4_capNow (m_now) K a : Int32)
set_option maxHeartbeats 4000000 in
theorem met_X4_capOf {g : Zg} (hG : zG g) {G : zHG} {o : Nat} {M : MT} (hM : zMo g G o M) {A H : Nat} {K : Nat → Nat} (hN : zWf (mt_now M) A H K) (a : Nat)  (h_a : a < 4)  : ZM g yX4_capOf cX4_capOf 3 (some FieldType.int) 3 0 0 [.ref o, .int (nI a)] G (zRet (some (.int (x4_capOf (mt_now M) (mt_extraOf M) (mt_extraCap M) K a))) G) := by
  unfold x4_capOf
  have hN2 := hN.2.1
  have hN4 := hN.2.2.2.1
  have hM : zMs g G G o M := zMs.rf hM
  refine ZM_mk hG (by decide) (Nat.le_of_ble_eq_true rfl) ?_
  intro X hX hname hQ
  show ZW g X 0 0 G 0 [(0, .ref o), (1, .int (nI a))] []
  refine z_aload_n hX dX4_capOf_0 1 rfl (i := 0) rfl 0 rfl ?_
  refine z_iload_n hX dX4_capOf_1 2 rfl (i := 1) rfl 1 rfl ?_
  refine z_callVp hX cwX4_168 (w := .int (x4_capNow (mt_now M) K a)) (met_X4_capNow hG hM.1 hN a (by omega)) hM.1.o rfl rfl dX4_capOf_2 5 rfl rfl rfl (Nat.le_of_ble_eq_true rfl) (by decide) ⟨Nat.zero_le _, Nat.zero_le _⟩ ?_
  refine z_istore_n hX dX4_capOf_5 6 rfl (i := 2) rfl (Nat.le_of_ble_eq_true rfl) rfl (L' := [(0, .ref o), (1, .int (nI a)), (2, .int (x4_capNow (mt_now M) K a))]) rfl ?_
  refine z_iload_n hX dX4_capOf_6 7 rfl (i := 1) rfl 1 rfl ?_
  refine z_aload_n hX dX4_capOf_7 8 rfl (i := 0) rfl 0 rfl ?_
  refine m_get_extraOf hX hM fX4_31 dX4_capOf_8 11 rfl (w := mt_extraOf M) rfl ?_
  have J2 : ZW g X 0 0 G 30 [(0, .ref o), (1, .int (nI a)), (2, .int (x4_capNow (mt_now M) K a))] [.int (if (nI a) = (mt_extraOf M) then (if (x4_capNow (mt_now M) K a) ≤ (mt_extraCap M) then x4_capNow (mt_now M) K a else mt_extraCap M : Int32) else x4_capNow (mt_now M) K a : Int32)] := by
    exact z_iret hX hQ (Nat.zero_le _) (Nat.zero_le _) rfl dX4_capOf_30 ⟨rfl, rfl⟩
  refine z_icmp_ne hX dX4_capOf_11 14 rfl (tgt := 29) (by decide) (fun c1 => ?_) (fun c1 => ?_)
  ·
    refine z_iload_n hX dX4_capOf_29 30 rfl (i := 2) rfl 2 rfl ?_
    exact z_eqL rfl (by first | (simp only [if_neg c1] <;> rfl; done) | grind) J2
  ·
    refine z_aload_n hX dX4_capOf_14 15 rfl (i := 0) rfl 0 rfl ?_
    refine m_get_extraCap hX hM fX4_35 dX4_capOf_15 18 rfl (w := mt_extraCap M) rfl ?_
    refine z_iload_n hX dX4_capOf_18 19 rfl (i := 2) rfl 2 rfl ?_
    refine z_icmp_ge hX dX4_capOf_19 22 rfl (tgt := 29) (by decide) (fun c3 => ?_) (fun c3 => ?_)
    ·
      refine z_iload_n hX dX4_capOf_29 30 rfl (i := 2) rfl 2 rfl ?_
      exact z_eqL rfl (by first | (simp only [if_pos c1, if_pos c3] <;> rfl; done) | grind) J2
    ·
      refine z_aload_n hX dX4_capOf_22 23 rfl (i := 0) rfl 0 rfl ?_
      refine m_get_extraCap hX hM fX4_35 dX4_capOf_23 26 rfl (w := mt_extraCap M) rfl ?_
      refine z_goto hX dX4_capOf_26 (tgt := 30) (by decide) ?_
      exact z_eqL rfl (by first | (simp only [if_pos c1, if_neg c3] <;> rfl; done) | grind) J2
def x4_priceBy (m_now : Nat → Int32) (m_extraOf : Int32) (m_extraShock : Int32) (m_buyerOf : Int32) (m_buys : Int32) (m_part : Int32) (K : Nat → Nat) (a : Nat) (many : Int32) : Int32 := (if (((((m_now (2 + a)) * (m_part)) / 100) - ((x4_shockNow (m_now) K a) + (if (nI a) = (m_extraOf) then m_extraShock else 0 : Int32))) - ((m_now (6 + a)) * (if (if (nI a) = (m_buyerOf) then many - (m_buys) else many : Int32) ≤ 0 then 0 else (if (nI a) = (m_buyerOf) then many - (m_buys) else many : Int32) : Int32))) ≤ 0 then 0 else ((((m_now (2 + a)) * (m_part)) / 100) - ((x4_shockNow (m_now) K a) + (if (nI a) = (m_extraOf) then m_extraShock else 0 : Int32))) - ((m_now (6 + a)) * (if (if (nI a) = (m_buyerOf) then many - (m_buys) else many : Int32) ≤ 0 then 0 else (if (nI a) = (m_buyerOf) then many - (m_buys) else many : Int32) : Int32)) : Int32)
set_option maxHeartbeats 4000000 in
theorem met_X4_priceBy {g : Zg} (hG : zG g) {G : zHG} {o : Nat} {M : MT} (hM : zMo g G o M) {A H : Nat} {K : Nat → Nat} (hN : zWf (mt_now M) A H K) (a : Nat) (many : Int32)  (h_a : a < 4)  : ZM g yX4_priceBy cX4_priceBy 6 (some FieldType.int) 3 0 0 [.ref o, .int (nI a), .int many] G (zRet (some (.int (x4_priceBy (mt_now M) (mt_extraOf M) (mt_extraShock M) (mt_buyerOf M) (mt_buys M) (mt_part M) K a many))) G) := by
  unfold x4_priceBy
  have hN2 := hN.2.1
  have hN4 := hN.2.2.2.1
  have hM : zMs g G G o M := zMs.rf hM
  refine ZM_mk hG (by decide) (Nat.le_of_ble_eq_true rfl) ?_
  intro X hX hname hQ
  show ZW g X 0 0 G 0 [(0, .ref o), (1, .int (nI a)), (2, .int many)] []
  refine z_iload_n hX dX4_priceBy_0 1 rfl (i := 1) rfl 1 rfl ?_
  refine z_aload_n hX dX4_priceBy_1 2 rfl (i := 0) rfl 0 rfl ?_
  refine m_get_buyerOf hX hM fX4_38 dX4_priceBy_2 5 rfl (w := mt_buyerOf M) rfl ?_
  have J2 : ZW g X 0 0 G 18 [(0, .ref o), (1, .int (nI a)), (2, .int many)] [.int (if (nI a) = (mt_buyerOf M) then many - (mt_buys M) else many : Int32)] := by
    refine z_istore_n hX dX4_priceBy_18 19 rfl (i := 3) rfl (Nat.le_of_ble_eq_true rfl) rfl (L' := [(0, .ref o), (1, .int (nI a)), (2, .int many), (3, .int (if (nI a) = (mt_buyerOf M) then many - (mt_buys M) else many : Int32))]) rfl ?_
    refine z_aload_n hX dX4_priceBy_19 20 rfl (i := 0) rfl 0 rfl ?_
    refine z_iload_n hX dX4_priceBy_20 21 rfl (i := 1) rfl 1 rfl ?_
    refine z_callVp hX cwX4_172 (w := .int (x4_shockNow (mt_now M) K a)) (met_X4_shockNow hG hM.1 hN a (by omega)) hM.1.o rfl rfl dX4_priceBy_21 24 rfl rfl rfl (Nat.le_of_ble_eq_true rfl) (by decide) ⟨Nat.zero_le _, Nat.zero_le _⟩ ?_
    refine z_iload_n hX dX4_priceBy_24 25 rfl (i := 1) rfl 1 rfl ?_
    refine z_aload_n hX dX4_priceBy_25 26 rfl (i := 0) rfl 0 rfl ?_
    refine m_get_extraOf hX hM fX4_31 dX4_priceBy_26 29 rfl (w := mt_extraOf M) rfl ?_
    have J4 : ZW g X 0 0 G 40 [(0, .ref o), (1, .int (nI a)), (2, .int many), (3, .int (if (nI a) = (mt_buyerOf M) then many - (mt_buys M) else many : Int32))] [.int (if (nI a) = (mt_extraOf M) then mt_extraShock M else 0 : Int32), .int (x4_shockNow (mt_now M) K a)] := by
      refine z_iadd hX dX4_priceBy_40 41 rfl (w := (x4_shockNow (mt_now M) K a) + (if (nI a) = (mt_extraOf M) then mt_extraShock M else 0 : Int32)) rfl ?_
      refine z_istore hX dX4_priceBy_41 43 rfl (Nat.le_of_ble_eq_true rfl) rfl (L' := [(0, .ref o), (1, .int (nI a)), (2, .int many), (3, .int (if (nI a) = (mt_buyerOf M) then many - (mt_buys M) else many : Int32)), (4, .int ((x4_shockNow (mt_now M) K a) + (if (nI a) = (mt_extraOf M) then mt_extraShock M else 0 : Int32)))]) rfl ?_
      refine z_aload_n hX dX4_priceBy_43 44 rfl (i := 0) rfl 0 rfl ?_
      refine z_getf hX fX4_7 hM.1.o dX4_priceBy_44 47 rfl (x := .ref (o + 1)) rfl ?_
      refine z_iconst hX dX4_priceBy_47 48 rfl zki_2 ?_
      refine z_iload_n hX dX4_priceBy_48 49 rfl (i := 1) rfl 1 rfl ?_
      refine z_iadd hX dX4_priceBy_49 50 rfl (w := nI (2 + a)) (nI_add 2 a) ?_
      refine m_ald_now hX hM (2 + a) (by omega) dX4_priceBy_50 51 rfl (w := mt_now M (2 + a)) rfl ?_
      refine z_aload_n hX dX4_priceBy_51 52 rfl (i := 0) rfl 0 rfl ?_
      refine m_get_part hX hM fX4_41 dX4_priceBy_52 55 rfl (w := mt_part M) rfl ?_
      refine z_imul hX dX4_priceBy_55 56 rfl (w := (mt_now M (2 + a)) * (mt_part M)) rfl ?_
      refine z_bipush hX dX4_priceBy_56 58 rfl zkb_100 ?_
      refine z_idiv hX dX4_priceBy_58 59 rfl (by decide) (w := ((mt_now M (2 + a)) * (mt_part M)) / 100) rfl ?_
      refine z_iload hX dX4_priceBy_59 61 rfl 4 rfl ?_
      refine z_isub hX dX4_priceBy_61 62 rfl (w := (((mt_now M (2 + a)) * (mt_part M)) / 100) - ((x4_shockNow (mt_now M) K a) + (if (nI a) = (mt_extraOf M) then mt_extraShock M else 0 : Int32))) rfl ?_
      refine z_aload_n hX dX4_priceBy_62 63 rfl (i := 0) rfl 0 rfl ?_
      refine z_getf hX fX4_7 hM.1.o dX4_priceBy_63 66 rfl (x := .ref (o + 1)) rfl ?_
      refine z_bipush hX dX4_priceBy_66 68 rfl zkb_6 ?_
      refine z_iload_n hX dX4_priceBy_68 69 rfl (i := 1) rfl 1 rfl ?_
      refine z_iadd hX dX4_priceBy_69 70 rfl (w := nI (6 + a)) (nI_add 6 a) ?_
      refine m_ald_now hX hM (6 + a) (by omega) dX4_priceBy_70 71 rfl (w := mt_now M (6 + a)) rfl ?_
      refine z_iload_n hX dX4_priceBy_71 72 rfl (i := 3) rfl 3 rfl ?_
      have J6 : ZW g X 0 0 G 80 [(0, .ref o), (1, .int (nI a)), (2, .int many), (3, .int (if (nI a) = (mt_buyerOf M) then many - (mt_buys M) else many : Int32)), (4, .int ((x4_shockNow (mt_now M) K a) + (if (nI a) = (mt_extraOf M) then mt_extraShock M else 0 : Int32)))] [.int (if (if (nI a) = (mt_buyerOf M) then many - (mt_buys M) else many : Int32) ≤ 0 then 0 else (if (nI a) = (mt_buyerOf M) then many - (mt_buys M) else many : Int32) : Int32), .int (mt_now M (6 + a)), .int ((((mt_now M (2 + a)) * (mt_part M)) / 100) - ((x4_shockNow (mt_now M) K a) + (if (nI a) = (mt_extraOf M) then mt_extraShock M else 0 : Int32)))] := by
        refine z_imul hX dX4_priceBy_80 81 rfl (w := (mt_now M (6 + a)) * (if (if (nI a) = (mt_buyerOf M) then many - (mt_buys M) else many : Int32) ≤ 0 then 0 else (if (nI a) = (mt_buyerOf M) then many - (mt_buys M) else many : Int32) : Int32)) rfl ?_
        refine z_isub hX dX4_priceBy_81 82 rfl (w := ((((mt_now M (2 + a)) * (mt_part M)) / 100) - ((x4_shockNow (mt_now M) K a) + (if (nI a) = (mt_extraOf M) then mt_extraShock M else 0 : Int32))) - ((mt_now M (6 + a)) * (if (if (nI a) = (mt_buyerOf M) then many - (mt_buys M) else many : Int32) ≤ 0 then 0 else (if (nI a) = (mt_buyerOf M) then many - (mt_buys M) else many : Int32) : Int32))) rfl ?_
        refine z_istore hX dX4_priceBy_82 84 rfl (Nat.le_of_ble_eq_true rfl) rfl (L' := [(0, .ref o), (1, .int (nI a)), (2, .int many), (3, .int (if (nI a) = (mt_buyerOf M) then many - (mt_buys M) else many : Int32)), (4, .int ((x4_shockNow (mt_now M) K a) + (if (nI a) = (mt_extraOf M) then mt_extraShock M else 0 : Int32))), (5, .int (((((mt_now M (2 + a)) * (mt_part M)) / 100) - ((x4_shockNow (mt_now M) K a) + (if (nI a) = (mt_extraOf M) then mt_extraShock M else 0 : Int32))) - ((mt_now M (6 + a)) * (if (if (nI a) = (mt_buyerOf M) then many - (mt_buys M) else many : Int32) ≤ 0 then 0 else (if (nI a) = (mt_buyerOf M) then many - (mt_buys M) else many : Int32) : Int32))))]) rfl ?_
        refine z_iload hX dX4_priceBy_84 86 rfl 5 rfl ?_
        have J8 : ZW g X 0 0 G 95 [(0, .ref o), (1, .int (nI a)), (2, .int many), (3, .int (if (nI a) = (mt_buyerOf M) then many - (mt_buys M) else many : Int32)), (4, .int ((x4_shockNow (mt_now M) K a) + (if (nI a) = (mt_extraOf M) then mt_extraShock M else 0 : Int32))), (5, .int (((((mt_now M (2 + a)) * (mt_part M)) / 100) - ((x4_shockNow (mt_now M) K a) + (if (nI a) = (mt_extraOf M) then mt_extraShock M else 0 : Int32))) - ((mt_now M (6 + a)) * (if (if (nI a) = (mt_buyerOf M) then many - (mt_buys M) else many : Int32) ≤ 0 then 0 else (if (nI a) = (mt_buyerOf M) then many - (mt_buys M) else many : Int32) : Int32))))] [.int (if (((((mt_now M (2 + a)) * (mt_part M)) / 100) - ((x4_shockNow (mt_now M) K a) + (if (nI a) = (mt_extraOf M) then mt_extraShock M else 0 : Int32))) - ((mt_now M (6 + a)) * (if (if (nI a) = (mt_buyerOf M) then many - (mt_buys M) else many : Int32) ≤ 0 then 0 else (if (nI a) = (mt_buyerOf M) then many - (mt_buys M) else many : Int32) : Int32))) ≤ 0 then 0 else ((((mt_now M (2 + a)) * (mt_part M)) / 100) - ((x4_shockNow (mt_now M) K a) + (if (nI a) = (mt_extraOf M) then mt_extraShock M else 0 : Int32))) - ((mt_now M (6 + a)) * (if (if (nI a) = (mt_buyerOf M) then many - (mt_buys M) else many : Int32) ≤ 0 then 0 else (if (nI a) = (mt_buyerOf M) then many - (mt_buys M) else many : Int32) : Int32)) : Int32)] := by
          exact z_iret hX hQ (Nat.zero_le _) (Nat.zero_le _) rfl dX4_priceBy_95 ⟨rfl, rfl⟩
        refine z_if_le hX dX4_priceBy_86 89 rfl (tgt := 94) (by decide) (fun c7 => ?_) (fun c7 => ?_)
        ·
          refine z_iconst hX dX4_priceBy_94 95 rfl zki_0 ?_
          exact z_eqL rfl (by first | (simp only [if_pos c7] <;> rfl; done) | grind) J8
        ·
          refine z_iload hX dX4_priceBy_89 91 rfl 5 rfl ?_
          refine z_goto hX dX4_priceBy_91 (tgt := 95) (by decide) ?_
          exact z_eqL rfl (by first | (simp only [if_neg c7] <;> rfl; done) | grind) J8
      refine z_if_le hX dX4_priceBy_72 75 rfl (tgt := 79) (by decide) (fun c5 => ?_) (fun c5 => ?_)
      ·
        refine z_iconst hX dX4_priceBy_79 80 rfl zki_0 ?_
        exact z_eqL rfl (by first | (simp only [if_pos c5] <;> rfl; done) | grind) J6
      ·
        refine z_iload_n hX dX4_priceBy_75 76 rfl (i := 3) rfl 3 rfl ?_
        refine z_goto hX dX4_priceBy_76 (tgt := 80) (by decide) ?_
        exact z_eqL rfl (by first | (simp only [if_neg c5] <;> rfl; done) | grind) J6
    refine z_icmp_ne hX dX4_priceBy_29 32 rfl (tgt := 39) (by decide) (fun c3 => ?_) (fun c3 => ?_)
    ·
      refine z_iconst hX dX4_priceBy_39 40 rfl zki_0 ?_
      exact z_eqL rfl (by first | (simp only [if_neg c3] <;> rfl; done) | grind) J4
    ·
      refine z_aload_n hX dX4_priceBy_32 33 rfl (i := 0) rfl 0 rfl ?_
      refine m_get_extraShock hX hM fX4_159 dX4_priceBy_33 36 rfl (w := mt_extraShock M) rfl ?_
      refine z_goto hX dX4_priceBy_36 (tgt := 40) (by decide) ?_
      exact z_eqL rfl (by first | (simp only [if_pos c3] <;> rfl; done) | grind) J4
  refine z_icmp_ne hX dX4_priceBy_5 8 rfl (tgt := 17) (by decide) (fun c1 => ?_) (fun c1 => ?_)
  ·
    refine z_iload_n hX dX4_priceBy_17 18 rfl (i := 2) rfl 2 rfl ?_
    exact z_eqL rfl (by first | (simp only [if_neg c1] <;> rfl; done) | grind) J2
  ·
    refine z_iload_n hX dX4_priceBy_8 9 rfl (i := 2) rfl 2 rfl ?_
    refine z_aload_n hX dX4_priceBy_9 10 rfl (i := 0) rfl 0 rfl ?_
    refine m_get_buys hX hM fX4_162 dX4_priceBy_10 13 rfl (w := mt_buys M) rfl ?_
    refine z_isub hX dX4_priceBy_13 14 rfl (w := many - (mt_buys M)) rfl ?_
    refine z_goto hX dX4_priceBy_14 (tgt := 18) (by decide) ?_
    exact z_eqL rfl (by first | (simp only [if_pos c1] <;> rfl; done) | grind) J2
def x4_worthNow_l23 (m_now : Nat → Int32) (m_sold : Nat → Int32) (m_extraOf : Int32) (m_extraShock : Int32) (m_buyerOf : Int32) (m_buys : Int32) (m_part : Int32) (K : Nat → Nat) (h : Nat) (ini : Int32) (k : Nat) : Int32 := zfold k (fun j1 cj1 => cj1 + ((m_now (40 + (4 * h) + j1)) * (x4_priceBy (m_now) (m_extraOf) (m_extraShock) (m_buyerOf) (m_buys) (m_part) K j1 (m_sold j1)))) ini
theorem x4_worthNow_l23_0 (m_now : Nat → Int32) (m_sold : Nat → Int32) (m_extraOf : Int32) (m_extraShock : Int32) (m_buyerOf : Int32) (m_buys : Int32) (m_part : Int32) (K : Nat → Nat) (h : Nat) (ini : Int32) : x4_worthNow_l23 m_now m_sold m_extraOf m_extraShock m_buyerOf m_buys m_part K h ini 0 = ini := (zfold_0 _ _).trans (Eq.refl _)
def x4_worthNow_l62 (m_now : Nat → Int32) (m_fallen : Int32) (h : Nat) (ini : Int32) (k : Nat) : Int32 := zfold k (fun j2 cj2 => (cj2 - (m_now (64 + (6 * h) + j2))) + (if (((m_fallen) >>> ((nI j2) &&& 31)) &&& 1) = 0 then m_now (64 + (6 * j2) + h) else 0 : Int32)) ini
theorem x4_worthNow_l62_0 (m_now : Nat → Int32) (m_fallen : Int32) (h : Nat) (ini : Int32) : x4_worthNow_l62 m_now m_fallen h ini 0 = ini := (zfold_0 _ _).trans (Eq.refl _)
def x4_worthNow (m_now : Nat → Int32) (m_sold : Nat → Int32) (m_fallen : Int32) (m_coins : Nat → Int32) (m_extraOf : Int32) (m_extraShock : Int32) (m_buyerOf : Int32) (m_buys : Int32) (m_part : Int32) (A : Nat) (H : Nat) (K : Nat → Nat) (h : Nat) : Int32 := x4_worthNow_l62 (m_now) (m_fallen) h (x4_worthNow_l23 (m_now) (m_sold) (m_extraOf) (m_extraShock) (m_buyerOf) (m_buys) (m_part) K h (((m_now (10 + (5 * h) + 0)) + (m_coins h)) - (m_now (10 + (5 * h) + 1))) A) H
set_option maxHeartbeats 4000000 in
theorem met_X4_worthNow {g : Zg} (hG : zG g) {G : zHG} {o : Nat} {M : MT} (hM : zMo g G o M) {A H : Nat} {K : Nat → Nat} (hN : zWf (mt_now M) A H K) (h : Nat)  (h_h : h < 6) (hf0 : h < H) : ZM g yX4_worthNow cX4_worthNow 4 (some FieldType.int) 4 0 0 [.ref o, .int (nI h)] G (zRet (some (.int (x4_worthNow (mt_now M) (mt_sold M) (mt_fallen M) (mt_coins M) (mt_extraOf M) (mt_extraShock M) (mt_buyerOf M) (mt_buys M) (mt_part M) A H K h))) G) := by
  unfold x4_worthNow
  have hN2 := hN.2.1
  have hN4 := hN.2.2.2.1
  have hM : zMs g G G o M := zMs.rf hM
  refine ZM_mk hG (by decide) (Nat.le_of_ble_eq_true rfl) ?_
  intro X hX hname hQ
  show ZW g X 0 0 G 0 [(0, .ref o), (1, .int (nI h))] []
  refine z_aload_n hX dX4_worthNow_0 1 rfl (i := 0) rfl 0 rfl ?_
  refine z_iload_n hX dX4_worthNow_1 2 rfl (i := 1) rfl 1 rfl ?_
  refine z_iconst hX dX4_worthNow_2 3 rfl zki_0 ?_
  refine z_callVp hX cwX4_175 (w := .int (mt_now M (10 + (5 * h) + 0))) (met_X4_houseOf hG hM.1 h 0 (by omega) (by omega)) hM.1.o rfl rfl dX4_worthNow_3 6 rfl rfl rfl (Nat.le_of_ble_eq_true rfl) (by decide) ⟨Nat.zero_le _, Nat.zero_le _⟩ ?_
  refine z_aload_n hX dX4_worthNow_6 7 rfl (i := 0) rfl 0 rfl ?_
  refine z_getf hX fX4_28 hM.1.o dX4_worthNow_7 10 rfl (x := .ref (o + 7)) rfl ?_
  refine z_iload_n hX dX4_worthNow_10 11 rfl (i := 1) rfl 1 rfl ?_
  refine m_ald_coins hX hM h (by omega) dX4_worthNow_11 12 rfl (w := mt_coins M h) rfl ?_
  refine z_iadd hX dX4_worthNow_12 13 rfl (w := (mt_now M (10 + (5 * h) + 0)) + (mt_coins M h)) rfl ?_
  refine z_aload_n hX dX4_worthNow_13 14 rfl (i := 0) rfl 0 rfl ?_
  refine z_iload_n hX dX4_worthNow_14 15 rfl (i := 1) rfl 1 rfl ?_
  refine z_iconst hX dX4_worthNow_15 16 rfl zki_1 ?_
  refine z_callVp hX cwX4_175 (w := .int (mt_now M (10 + (5 * h) + 1))) (met_X4_houseOf hG hM.1 h 1 (by omega) (by omega)) hM.1.o rfl rfl dX4_worthNow_16 19 rfl rfl rfl (Nat.le_of_ble_eq_true rfl) (by decide) ⟨Nat.zero_le _, Nat.zero_le _⟩ ?_
  refine z_isub hX dX4_worthNow_19 20 rfl (w := ((mt_now M (10 + (5 * h) + 0)) + (mt_coins M h)) - (mt_now M (10 + (5 * h) + 1))) rfl ?_
  refine z_istore_n hX dX4_worthNow_20 21 rfl (i := 2) rfl (Nat.le_of_ble_eq_true rfl) rfl (L' := [(0, .ref o), (1, .int (nI h)), (2, .int (((mt_now M (10 + (5 * h) + 0)) + (mt_coins M h)) - (mt_now M (10 + (5 * h) + 1))))]) rfl ?_
  refine z_iconst hX dX4_worthNow_21 22 rfl zki_0 ?_
  refine z_istore_n hX dX4_worthNow_22 23 rfl (i := 3) rfl (Nat.le_of_ble_eq_true rfl) rfl (L' := [(0, .ref o), (1, .int (nI h)), (2, .int (((mt_now M (10 + (5 * h) + 0)) + (mt_coins M h)) - (mt_now M (10 + (5 * h) + 1)))), (3, .int 0)]) rfl ?_
  have E2 : ZW g X 0 0 G 60 [(0, .ref o), (1, .int (nI h)), (2, .int (x4_worthNow_l23 (mt_now M) (mt_sold M) (mt_extraOf M) (mt_extraShock M) (mt_buyerOf M) (mt_buys M) (mt_part M) K h (((mt_now M (10 + (5 * h) + 0)) + (mt_coins M h)) - (mt_now M (10 + (5 * h) + 1))) A)), (3, .int (nI A))] [] := by
    refine z_iconst hX dX4_worthNow_60 61 rfl zki_0 ?_
    refine z_istore_n hX dX4_worthNow_61 62 rfl (i := 3) rfl (Nat.le_of_ble_eq_true rfl) rfl (L' := [(0, .ref o), (1, .int (nI h)), (2, .int (x4_worthNow_l23 (mt_now M) (mt_sold M) (mt_extraOf M) (mt_extraShock M) (mt_buyerOf M) (mt_buys M) (mt_part M) K h (((mt_now M (10 + (5 * h) + 0)) + (mt_coins M h)) - (mt_now M (10 + (5 * h) + 1))) A)), (3, .int 0)]) rfl ?_
    have E5 : ZW g X 0 0 G 111 [(0, .ref o), (1, .int (nI h)), (2, .int (x4_worthNow_l62 (mt_now M) (mt_fallen M) h (x4_worthNow_l23 (mt_now M) (mt_sold M) (mt_extraOf M) (mt_extraShock M) (mt_buyerOf M) (mt_buys M) (mt_part M) K h (((mt_now M (10 + (5 * h) + 0)) + (mt_coins M h)) - (mt_now M (10 + (5 * h) + 1))) A) H)), (3, .int (nI H))] [] := by
      refine z_iload_n hX dX4_worthNow_111 112 rfl (i := 2) rfl 2 rfl ?_
      exact z_iret hX hQ (Nat.zero_le _) (Nat.zero_le _) rfl dX4_worthNow_112 ⟨rfl, rfl⟩
    have Lp6 : ∀ k j4 : Nat, j4 + k = H → ZW g X 0 0 G 62 [(0, .ref o), (1, .int (nI h)), (2, .int (x4_worthNow_l62 (mt_now M) (mt_fallen M) h (x4_worthNow_l23 (mt_now M) (mt_sold M) (mt_extraOf M) (mt_extraShock M) (mt_buyerOf M) (mt_buys M) (mt_part M) K h (((mt_now M (10 + (5 * h) + 0)) + (mt_coins M h)) - (mt_now M (10 + (5 * h) + 1))) A) j4)), (3, .int (nI j4))] [] := by
      intro k
      induction k with
      | zero =>
        intro j4 hj4
        rw [show j4 = H from by omega]
        refine z_iload_n hX dX4_worthNow_62 63 rfl (i := 3) rfl 3 rfl ?_
        refine z_aload_n hX dX4_worthNow_63 64 rfl (i := 0) rfl 0 rfl ?_
        refine z_getf hX fX4_7 hM.1.o dX4_worthNow_64 67 rfl (x := .ref (o + 1)) rfl ?_
        refine z_iconst hX dX4_worthNow_67 68 rfl zki_1 ?_
        refine m_ald_now hX hM 1 (by omega) dX4_worthNow_68 69 rfl (w := nI H) hN.2.2.1 ?_
        refine z_icmp_geN hX H H (by omega) (by omega) dX4_worthNow_69 72 rfl (tgt := 111) (by decide) (fun c7 => ?_) (fun c7 => ?_)
        · exact E5
        · exact absurd c7 (by omega)
      | succ k ih =>
        intro j4 hj4
        refine z_iload_n hX dX4_worthNow_62 63 rfl (i := 3) rfl 3 rfl ?_
        refine z_aload_n hX dX4_worthNow_63 64 rfl (i := 0) rfl 0 rfl ?_
        refine z_getf hX fX4_7 hM.1.o dX4_worthNow_64 67 rfl (x := .ref (o + 1)) rfl ?_
        refine z_iconst hX dX4_worthNow_67 68 rfl zki_1 ?_
        refine m_ald_now hX hM 1 (by omega) dX4_worthNow_68 69 rfl (w := nI H) hN.2.2.1 ?_
        refine z_icmp_geN hX j4 H (by omega) (by omega) dX4_worthNow_69 72 rfl (tgt := 111) (by decide) (fun c8 => ?_) (fun c8 => ?_)
        · exact absurd c8 (by omega)
        ·
          refine z_iload_n hX dX4_worthNow_72 73 rfl (i := 2) rfl 2 rfl ?_
          refine z_aload_n hX dX4_worthNow_73 74 rfl (i := 0) rfl 0 rfl ?_
          refine z_iload_n hX dX4_worthNow_74 75 rfl (i := 1) rfl 1 rfl ?_
          refine z_iload_n hX dX4_worthNow_75 76 rfl (i := 3) rfl 3 rfl ?_
          refine z_callVp hX cwX4_181 (w := .int (mt_now M (64 + (6 * h) + j4))) (met_X4_loanOf hG hM.1 h j4 (by omega) (by omega)) hM.1.o rfl rfl dX4_worthNow_76 79 rfl rfl rfl (Nat.le_of_ble_eq_true rfl) (by decide) ⟨Nat.zero_le _, Nat.zero_le _⟩ ?_
          refine z_isub hX dX4_worthNow_79 80 rfl (w := (x4_worthNow_l62 (mt_now M) (mt_fallen M) h (x4_worthNow_l23 (mt_now M) (mt_sold M) (mt_extraOf M) (mt_extraShock M) (mt_buyerOf M) (mt_buys M) (mt_part M) K h (((mt_now M (10 + (5 * h) + 0)) + (mt_coins M h)) - (mt_now M (10 + (5 * h) + 1))) A) j4) - (mt_now M (64 + (6 * h) + j4))) rfl ?_
          refine z_istore_n hX dX4_worthNow_80 81 rfl (i := 2) rfl (Nat.le_of_ble_eq_true rfl) rfl (L' := [(0, .ref o), (1, .int (nI h)), (2, .int ((x4_worthNow_l62 (mt_now M) (mt_fallen M) h (x4_worthNow_l23 (mt_now M) (mt_sold M) (mt_extraOf M) (mt_extraShock M) (mt_buyerOf M) (mt_buys M) (mt_part M) K h (((mt_now M (10 + (5 * h) + 0)) + (mt_coins M h)) - (mt_now M (10 + (5 * h) + 1))) A) j4) - (mt_now M (64 + (6 * h) + j4)))), (3, .int (nI j4))]) rfl ?_
          refine z_iload_n hX dX4_worthNow_81 82 rfl (i := 2) rfl 2 rfl ?_
          refine z_aload_n hX dX4_worthNow_82 83 rfl (i := 0) rfl 0 rfl ?_
          refine m_get_fallen hX hM fX4_184 dX4_worthNow_83 86 rfl (w := mt_fallen M) rfl ?_
          refine z_iload_n hX dX4_worthNow_86 87 rfl (i := 3) rfl 3 rfl ?_
          refine z_ishr hX dX4_worthNow_87 88 rfl (w := (mt_fallen M) >>> ((nI j4) &&& 31)) rfl ?_
          refine z_iconst hX dX4_worthNow_88 89 rfl zki_1 ?_
          refine z_iand hX dX4_worthNow_89 90 rfl (w := ((mt_fallen M) >>> ((nI j4) &&& 31)) &&& 1) rfl ?_
          have J10 : ZW g X 0 0 G 103 [(0, .ref o), (1, .int (nI h)), (2, .int ((x4_worthNow_l62 (mt_now M) (mt_fallen M) h (x4_worthNow_l23 (mt_now M) (mt_sold M) (mt_extraOf M) (mt_extraShock M) (mt_buyerOf M) (mt_buys M) (mt_part M) K h (((mt_now M (10 + (5 * h) + 0)) + (mt_coins M h)) - (mt_now M (10 + (5 * h) + 1))) A) j4) - (mt_now M (64 + (6 * h) + j4)))), (3, .int (nI j4))] [.int (if (((mt_fallen M) >>> ((nI j4) &&& 31)) &&& 1) = 0 then mt_now M (64 + (6 * j4) + h) else 0 : Int32), .int ((x4_worthNow_l62 (mt_now M) (mt_fallen M) h (x4_worthNow_l23 (mt_now M) (mt_sold M) (mt_extraOf M) (mt_extraShock M) (mt_buyerOf M) (mt_buys M) (mt_part M) K h (((mt_now M (10 + (5 * h) + 0)) + (mt_coins M h)) - (mt_now M (10 + (5 * h) + 1))) A) j4) - (mt_now M (64 + (6 * h) + j4)))] := by
            refine z_iadd hX dX4_worthNow_103 104 rfl (w := ((x4_worthNow_l62 (mt_now M) (mt_fallen M) h (x4_worthNow_l23 (mt_now M) (mt_sold M) (mt_extraOf M) (mt_extraShock M) (mt_buyerOf M) (mt_buys M) (mt_part M) K h (((mt_now M (10 + (5 * h) + 0)) + (mt_coins M h)) - (mt_now M (10 + (5 * h) + 1))) A) j4) - (mt_now M (64 + (6 * h) + j4))) + (if (((mt_fallen M) >>> ((nI j4) &&& 31)) &&& 1) = 0 then mt_now M (64 + (6 * j4) + h) else 0 : Int32)) rfl ?_
            refine z_istore_n hX dX4_worthNow_104 105 rfl (i := 2) rfl (Nat.le_of_ble_eq_true rfl) rfl (L' := [(0, .ref o), (1, .int (nI h)), (2, .int (((x4_worthNow_l62 (mt_now M) (mt_fallen M) h (x4_worthNow_l23 (mt_now M) (mt_sold M) (mt_extraOf M) (mt_extraShock M) (mt_buyerOf M) (mt_buys M) (mt_part M) K h (((mt_now M (10 + (5 * h) + 0)) + (mt_coins M h)) - (mt_now M (10 + (5 * h) + 1))) A) j4) - (mt_now M (64 + (6 * h) + j4))) + (if (((mt_fallen M) >>> ((nI j4) &&& 31)) &&& 1) = 0 then mt_now M (64 + (6 * j4) + h) else 0 : Int32))), (3, .int (nI j4))]) rfl ?_
            refine z_iinc hX dX4_worthNow_105 108 rfl 3 rfl (w := nI (j4 + 1)) (nI_1 j4) (Nat.le_of_ble_eq_true rfl) rfl (L' := [(0, .ref o), (1, .int (nI h)), (2, .int (((x4_worthNow_l62 (mt_now M) (mt_fallen M) h (x4_worthNow_l23 (mt_now M) (mt_sold M) (mt_extraOf M) (mt_extraShock M) (mt_buyerOf M) (mt_buys M) (mt_part M) K h (((mt_now M (10 + (5 * h) + 0)) + (mt_coins M h)) - (mt_now M (10 + (5 * h) + 1))) A) j4) - (mt_now M (64 + (6 * h) + j4))) + (if (((mt_fallen M) >>> ((nI j4) &&& 31)) &&& 1) = 0 then mt_now M (64 + (6 * j4) + h) else 0 : Int32))), (3, .int (nI (j4 + 1)))]) rfl ?_
            refine z_goto hX dX4_worthNow_108 (tgt := 62) (by decide) ?_
            exact ih (j4 + 1) (by omega)
          refine z_if_ne hX dX4_worthNow_90 93 rfl (tgt := 102) (by decide) (fun c9 => ?_) (fun c9 => ?_)
          ·
            refine z_iconst hX dX4_worthNow_102 103 rfl zki_0 ?_
            exact z_eqL rfl (by first | (simp only [if_neg c9] <;> rfl; done) | grind) J10
          ·
            refine z_aload_n hX dX4_worthNow_93 94 rfl (i := 0) rfl 0 rfl ?_
            refine z_iload_n hX dX4_worthNow_94 95 rfl (i := 3) rfl 3 rfl ?_
            refine z_iload_n hX dX4_worthNow_95 96 rfl (i := 1) rfl 1 rfl ?_
            refine z_callVp hX cwX4_181 (w := .int (mt_now M (64 + (6 * j4) + h))) (met_X4_loanOf hG hM.1 j4 h (by omega) (by omega)) hM.1.o rfl rfl dX4_worthNow_96 99 rfl rfl rfl (Nat.le_of_ble_eq_true rfl) (by decide) ⟨Nat.zero_le _, Nat.zero_le _⟩ ?_
            refine z_goto hX dX4_worthNow_99 (tgt := 103) (by decide) ?_
            exact z_eqL rfl (by first | (simp only [if_pos c9] <;> rfl; done) | grind) J10
    exact Lp6 H 0 (by omega)
  have Lp3 : ∀ k j1 : Nat, j1 + k = A → ZW g X 0 0 G 23 [(0, .ref o), (1, .int (nI h)), (2, .int (x4_worthNow_l23 (mt_now M) (mt_sold M) (mt_extraOf M) (mt_extraShock M) (mt_buyerOf M) (mt_buys M) (mt_part M) K h (((mt_now M (10 + (5 * h) + 0)) + (mt_coins M h)) - (mt_now M (10 + (5 * h) + 1))) j1)), (3, .int (nI j1))] [] := by
    intro k
    induction k with
    | zero =>
      intro j1 hj1
      rw [show j1 = A from by omega]
      refine z_iload_n hX dX4_worthNow_23 24 rfl (i := 3) rfl 3 rfl ?_
      refine z_aload_n hX dX4_worthNow_24 25 rfl (i := 0) rfl 0 rfl ?_
      refine z_getf hX fX4_7 hM.1.o dX4_worthNow_25 28 rfl (x := .ref (o + 1)) rfl ?_
      refine z_iconst hX dX4_worthNow_28 29 rfl zki_0 ?_
      refine m_ald_now hX hM 0 (by omega) dX4_worthNow_29 30 rfl (w := nI A) hN.1 ?_
      refine z_icmp_geN hX A A (by omega) (by omega) dX4_worthNow_30 33 rfl (tgt := 60) (by decide) (fun c11 => ?_) (fun c11 => ?_)
      · exact E2
      · exact absurd c11 (by omega)
    | succ k ih =>
      intro j1 hj1
      refine z_iload_n hX dX4_worthNow_23 24 rfl (i := 3) rfl 3 rfl ?_
      refine z_aload_n hX dX4_worthNow_24 25 rfl (i := 0) rfl 0 rfl ?_
      refine z_getf hX fX4_7 hM.1.o dX4_worthNow_25 28 rfl (x := .ref (o + 1)) rfl ?_
      refine z_iconst hX dX4_worthNow_28 29 rfl zki_0 ?_
      refine m_ald_now hX hM 0 (by omega) dX4_worthNow_29 30 rfl (w := nI A) hN.1 ?_
      refine z_icmp_geN hX j1 A (by omega) (by omega) dX4_worthNow_30 33 rfl (tgt := 60) (by decide) (fun c12 => ?_) (fun c12 => ?_)
      · exact absurd c12 (by omega)
      ·
        refine z_iload_n hX dX4_worthNow_33 34 rfl (i := 2) rfl 2 rfl ?_
        refine z_aload_n hX dX4_worthNow_34 35 rfl (i := 0) rfl 0 rfl ?_
        refine z_iload_n hX dX4_worthNow_35 36 rfl (i := 1) rfl 1 rfl ?_
        refine z_iload_n hX dX4_worthNow_36 37 rfl (i := 3) rfl 3 rfl ?_
        refine z_callVp hX cwX4_72 (w := .int (mt_now M (40 + (4 * h) + j1))) (met_X4_holds hG hM.1 h j1 (by omega) (by omega)) hM.1.o rfl rfl dX4_worthNow_37 40 rfl rfl rfl (Nat.le_of_ble_eq_true rfl) (by decide) ⟨Nat.zero_le _, Nat.zero_le _⟩ ?_
        refine z_aload_n hX dX4_worthNow_40 41 rfl (i := 0) rfl 0 rfl ?_
        refine z_iload_n hX dX4_worthNow_41 42 rfl (i := 3) rfl 3 rfl ?_
        refine z_aload_n hX dX4_worthNow_42 43 rfl (i := 0) rfl 0 rfl ?_
        refine z_getf hX fX4_22 hM.1.o dX4_worthNow_43 46 rfl (x := .ref (o + 5)) rfl ?_
        refine z_iload_n hX dX4_worthNow_46 47 rfl (i := 3) rfl 3 rfl ?_
        refine m_ald_sold hX hM j1 (by omega) dX4_worthNow_47 48 rfl (w := mt_sold M j1) rfl ?_
        refine z_callVp hX cwX4_178 (w := .int (x4_priceBy (mt_now M) (mt_extraOf M) (mt_extraShock M) (mt_buyerOf M) (mt_buys M) (mt_part M) K j1 (mt_sold M j1))) (met_X4_priceBy hG hM.1 hN j1 (mt_sold M j1) (by omega)) hM.1.o rfl rfl dX4_worthNow_48 51 rfl rfl rfl (Nat.le_of_ble_eq_true rfl) (by decide) ⟨Nat.zero_le _, Nat.zero_le _⟩ ?_
        refine z_imul hX dX4_worthNow_51 52 rfl (w := (mt_now M (40 + (4 * h) + j1)) * (x4_priceBy (mt_now M) (mt_extraOf M) (mt_extraShock M) (mt_buyerOf M) (mt_buys M) (mt_part M) K j1 (mt_sold M j1))) rfl ?_
        refine z_iadd hX dX4_worthNow_52 53 rfl (w := (x4_worthNow_l23 (mt_now M) (mt_sold M) (mt_extraOf M) (mt_extraShock M) (mt_buyerOf M) (mt_buys M) (mt_part M) K h (((mt_now M (10 + (5 * h) + 0)) + (mt_coins M h)) - (mt_now M (10 + (5 * h) + 1))) j1) + ((mt_now M (40 + (4 * h) + j1)) * (x4_priceBy (mt_now M) (mt_extraOf M) (mt_extraShock M) (mt_buyerOf M) (mt_buys M) (mt_part M) K j1 (mt_sold M j1)))) rfl ?_
        refine z_istore_n hX dX4_worthNow_53 54 rfl (i := 2) rfl (Nat.le_of_ble_eq_true rfl) rfl (L' := [(0, .ref o), (1, .int (nI h)), (2, .int ((x4_worthNow_l23 (mt_now M) (mt_sold M) (mt_extraOf M) (mt_extraShock M) (mt_buyerOf M) (mt_buys M) (mt_part M) K h (((mt_now M (10 + (5 * h) + 0)) + (mt_coins M h)) - (mt_now M (10 + (5 * h) + 1))) j1) + ((mt_now M (40 + (4 * h) + j1)) * (x4_priceBy (mt_now M) (mt_extraOf M) (mt_extraShock M) (mt_buyerOf M) (mt_buys M) (mt_part M) K j1 (mt_sold M j1))))), (3, .int (nI j1))]) rfl ?_
        refine z_iinc hX dX4_worthNow_54 57 rfl 3 rfl (w := nI (j1 + 1)) (nI_1 j1) (Nat.le_of_ble_eq_true rfl) rfl (L' := [(0, .ref o), (1, .int (nI h)), (2, .int ((x4_worthNow_l23 (mt_now M) (mt_sold M) (mt_extraOf M) (mt_extraShock M) (mt_buyerOf M) (mt_buys M) (mt_part M) K h (((mt_now M (10 + (5 * h) + 0)) + (mt_coins M h)) - (mt_now M (10 + (5 * h) + 1))) j1) + ((mt_now M (40 + (4 * h) + j1)) * (x4_priceBy (mt_now M) (mt_extraOf M) (mt_extraShock M) (mt_buyerOf M) (mt_buys M) (mt_part M) K j1 (mt_sold M j1))))), (3, .int (nI (j1 + 1)))]) rfl ?_
        refine z_goto hX dX4_worthNow_57 (tgt := 23) (by decide) ?_
        exact ih (j1 + 1) (by omega)
  exact Lp3 A 0 (by omega)
def x4_piecesOf_l4 (m_now : Nat → Int32) (h : Nat) (ini : Int32) (k : Nat) : Int32 := zfold k (fun j1 cj1 => cj1 + (m_now (40 + (4 * h) + j1))) ini
theorem x4_piecesOf_l4_0 (m_now : Nat → Int32) (h : Nat) (ini : Int32) : x4_piecesOf_l4 m_now h ini 0 = ini := (zfold_0 _ _).trans (Eq.refl _)
def x4_piecesOf (m_now : Nat → Int32) (A : Nat) (h : Nat) : Int32 := x4_piecesOf_l4 (m_now) h 0 A
set_option maxHeartbeats 4000000 in
theorem met_X4_piecesOf {g : Zg} (hG : zG g) {G : zHG} {o : Nat} {M : MT} (hM : zMo g G o M) {A H : Nat} {K : Nat → Nat} (hN : zWf (mt_now M) A H K) (h : Nat)  (h_h : h < 6)  : ZM g yX4_piecesOf cX4_piecesOf 4 (some FieldType.int) 2 0 0 [.ref o, .int (nI h)] G (zRet (some (.int (x4_piecesOf (mt_now M) A h))) G) := by
  unfold x4_piecesOf
  have hN2 := hN.2.1
  have hN4 := hN.2.2.2.1
  have hM : zMs g G G o M := zMs.rf hM
  refine ZM_mk hG (by decide) (Nat.le_of_ble_eq_true rfl) ?_
  intro X hX hname hQ
  show ZW g X 0 0 G 0 [(0, .ref o), (1, .int (nI h))] []
  refine z_iconst hX dX4_piecesOf_0 1 rfl zki_0 ?_
  refine z_istore_n hX dX4_piecesOf_1 2 rfl (i := 2) rfl (Nat.le_of_ble_eq_true rfl) rfl (L' := [(0, .ref o), (1, .int (nI h)), (2, .int 0)]) rfl ?_
  refine z_iconst hX dX4_piecesOf_2 3 rfl zki_0 ?_
  refine z_istore_n hX dX4_piecesOf_3 4 rfl (i := 3) rfl (Nat.le_of_ble_eq_true rfl) rfl (L' := [(0, .ref o), (1, .int (nI h)), (2, .int 0), (3, .int 0)]) rfl ?_
  have E2 : ZW g X 0 0 G 29 [(0, .ref o), (1, .int (nI h)), (2, .int (x4_piecesOf_l4 (mt_now M) h 0 A)), (3, .int (nI A))] [] := by
    refine z_iload_n hX dX4_piecesOf_29 30 rfl (i := 2) rfl 2 rfl ?_
    exact z_iret hX hQ (Nat.zero_le _) (Nat.zero_le _) rfl dX4_piecesOf_30 ⟨rfl, rfl⟩
  have Lp3 : ∀ k j1 : Nat, j1 + k = A → ZW g X 0 0 G 4 [(0, .ref o), (1, .int (nI h)), (2, .int (x4_piecesOf_l4 (mt_now M) h 0 j1)), (3, .int (nI j1))] [] := by
    intro k
    induction k with
    | zero =>
      intro j1 hj1
      rw [show j1 = A from by omega]
      refine z_iload_n hX dX4_piecesOf_4 5 rfl (i := 3) rfl 3 rfl ?_
      refine z_aload_n hX dX4_piecesOf_5 6 rfl (i := 0) rfl 0 rfl ?_
      refine z_getf hX fX4_7 hM.1.o dX4_piecesOf_6 9 rfl (x := .ref (o + 1)) rfl ?_
      refine z_iconst hX dX4_piecesOf_9 10 rfl zki_0 ?_
      refine m_ald_now hX hM 0 (by omega) dX4_piecesOf_10 11 rfl (w := nI A) hN.1 ?_
      refine z_icmp_geN hX A A (by omega) (by omega) dX4_piecesOf_11 14 rfl (tgt := 29) (by decide) (fun c4 => ?_) (fun c4 => ?_)
      · exact E2
      · exact absurd c4 (by omega)
    | succ k ih =>
      intro j1 hj1
      refine z_iload_n hX dX4_piecesOf_4 5 rfl (i := 3) rfl 3 rfl ?_
      refine z_aload_n hX dX4_piecesOf_5 6 rfl (i := 0) rfl 0 rfl ?_
      refine z_getf hX fX4_7 hM.1.o dX4_piecesOf_6 9 rfl (x := .ref (o + 1)) rfl ?_
      refine z_iconst hX dX4_piecesOf_9 10 rfl zki_0 ?_
      refine m_ald_now hX hM 0 (by omega) dX4_piecesOf_10 11 rfl (w := nI A) hN.1 ?_
      refine z_icmp_geN hX j1 A (by omega) (by omega) dX4_piecesOf_11 14 rfl (tgt := 29) (by decide) (fun c5 => ?_) (fun c5 => ?_)
      · exact absurd c5 (by omega)
      ·
        refine z_iload_n hX dX4_piecesOf_14 15 rfl (i := 2) rfl 2 rfl ?_
        refine z_aload_n hX dX4_piecesOf_15 16 rfl (i := 0) rfl 0 rfl ?_
        refine z_iload_n hX dX4_piecesOf_16 17 rfl (i := 1) rfl 1 rfl ?_
        refine z_iload_n hX dX4_piecesOf_17 18 rfl (i := 3) rfl 3 rfl ?_
        refine z_callVp hX cwX4_72 (w := .int (mt_now M (40 + (4 * h) + j1))) (met_X4_holds hG hM.1 h j1 (by omega) (by omega)) hM.1.o rfl rfl dX4_piecesOf_18 21 rfl rfl rfl (Nat.le_of_ble_eq_true rfl) (by decide) ⟨Nat.zero_le _, Nat.zero_le _⟩ ?_
        refine z_iadd hX dX4_piecesOf_21 22 rfl (w := (x4_piecesOf_l4 (mt_now M) h 0 j1) + (mt_now M (40 + (4 * h) + j1))) rfl ?_
        refine z_istore_n hX dX4_piecesOf_22 23 rfl (i := 2) rfl (Nat.le_of_ble_eq_true rfl) rfl (L' := [(0, .ref o), (1, .int (nI h)), (2, .int ((x4_piecesOf_l4 (mt_now M) h 0 j1) + (mt_now M (40 + (4 * h) + j1)))), (3, .int (nI j1))]) rfl ?_
        refine z_iinc hX dX4_piecesOf_23 26 rfl 3 rfl (w := nI (j1 + 1)) (nI_1 j1) (Nat.le_of_ble_eq_true rfl) rfl (L' := [(0, .ref o), (1, .int (nI h)), (2, .int ((x4_piecesOf_l4 (mt_now M) h 0 j1) + (mt_now M (40 + (4 * h) + j1)))), (3, .int (nI (j1 + 1)))]) rfl ?_
        refine z_goto hX dX4_piecesOf_26 (tgt := 4) (by decide) ?_
        exact ih (j1 + 1) (by omega)
  exact Lp3 A 0 (by omega)
def x4_must (m_now : Nat → Int32) (m_sold : Nat → Int32) (m_fallen : Int32) (m_coins : Nat → Int32) (m_extraOf : Int32) (m_extraShock : Int32) (m_buyerOf : Int32) (m_buys : Int32) (m_part : Int32) (A : Nat) (H : Nat) (K : Nat → Nat) (h : Nat) : Int32 := (if 0 ≤ (x4_worthNow (m_now) (m_sold) (m_fallen) (m_coins) (m_extraOf) (m_extraShock) (m_buyerOf) (m_buys) (m_part) A H K h) then (if (x4_piecesOf (m_now) A h) ≤ (if 0 < ((m_now (10 + (5 * h) + 2)) - (x4_worthNow (m_now) (m_sold) (m_fallen) (m_coins) (m_extraOf) (m_extraShock) (m_buyerOf) (m_buys) (m_part) A H K h)) then ((((m_now (10 + (5 * h) + 2)) - (x4_worthNow (m_now) (m_sold) (m_fallen) (m_coins) (m_extraOf) (m_extraShock) (m_buyerOf) (m_buys) (m_part) A H K h)) + (m_now (10 + (5 * h) + 3))) - 1) / (m_now (10 + (5 * h) + 3)) else 0 : Int32) then x4_piecesOf (m_now) A h else (if 0 < ((m_now (10 + (5 * h) + 2)) - (x4_worthNow (m_now) (m_sold) (m_fallen) (m_coins) (m_extraOf) (m_extraShock) (m_buyerOf) (m_buys) (m_part) A H K h)) then ((((m_now (10 + (5 * h) + 2)) - (x4_worthNow (m_now) (m_sold) (m_fallen) (m_coins) (m_extraOf) (m_extraShock) (m_buyerOf) (m_buys) (m_part) A H K h)) + (m_now (10 + (5 * h) + 3))) - 1) / (m_now (10 + (5 * h) + 3)) else 0 : Int32) : Int32) else x4_piecesOf (m_now) A h : Int32)
set_option maxHeartbeats 4000000 in
theorem met_X4_must {g : Zg} (hG : zG g) {G : zHG} {o : Nat} {M : MT} (hM : zMo g G o M) {A H : Nat} {K : Nat → Nat} (hN : zWf (mt_now M) A H K) (h : Nat)  (h_h : h < 6) (hf0 : h < H) : ZM g yX4_must cX4_must 6 (some FieldType.int) 5 0 0 [.ref o, .int (nI h)] G (zRet (some (.int (x4_must (mt_now M) (mt_sold M) (mt_fallen M) (mt_coins M) (mt_extraOf M) (mt_extraShock M) (mt_buyerOf M) (mt_buys M) (mt_part M) A H K h))) G) := by
  unfold x4_must
  have hN2 := hN.2.1
  have hN4 := hN.2.2.2.1
  have hst := hN.2.2.2.2.2 h hf0
  have hM : zMs g G G o M := zMs.rf hM
  refine ZM_mk hG (by decide) (Nat.le_of_ble_eq_true rfl) ?_
  intro X hX hname hQ
  show ZW g X 0 0 G 0 [(0, .ref o), (1, .int (nI h))] []
  refine z_aload_n hX dX4_must_0 1 rfl (i := 0) rfl 0 rfl ?_
  refine z_iload_n hX dX4_must_1 2 rfl (i := 1) rfl 1 rfl ?_
  refine z_callVp hX cwX4_187 (w := .int (x4_worthNow (mt_now M) (mt_sold M) (mt_fallen M) (mt_coins M) (mt_extraOf M) (mt_extraShock M) (mt_buyerOf M) (mt_buys M) (mt_part M) A H K h)) (met_X4_worthNow hG hM.1 hN h (by omega) (by first | assumption | omega)) hM.1.o rfl rfl dX4_must_2 5 rfl rfl rfl (Nat.le_of_ble_eq_true rfl) (by decide) ⟨Nat.zero_le _, Nat.zero_le _⟩ ?_
  refine z_istore_n hX dX4_must_5 6 rfl (i := 2) rfl (Nat.le_of_ble_eq_true rfl) rfl (L' := [(0, .ref o), (1, .int (nI h)), (2, .int (x4_worthNow (mt_now M) (mt_sold M) (mt_fallen M) (mt_coins M) (mt_extraOf M) (mt_extraShock M) (mt_buyerOf M) (mt_buys M) (mt_part M) A H K h))]) rfl ?_
  refine z_aload_n hX dX4_must_6 7 rfl (i := 0) rfl 0 rfl ?_
  refine z_iload_n hX dX4_must_7 8 rfl (i := 1) rfl 1 rfl ?_
  refine z_callVp hX cwX4_190 (w := .int (x4_piecesOf (mt_now M) A h)) (met_X4_piecesOf hG hM.1 hN h (by omega)) hM.1.o rfl rfl dX4_must_8 11 rfl rfl rfl (Nat.le_of_ble_eq_true rfl) (by decide) ⟨Nat.zero_le _, Nat.zero_le _⟩ ?_
  refine z_istore_n hX dX4_must_11 12 rfl (i := 3) rfl (Nat.le_of_ble_eq_true rfl) rfl (L' := [(0, .ref o), (1, .int (nI h)), (2, .int (x4_worthNow (mt_now M) (mt_sold M) (mt_fallen M) (mt_coins M) (mt_extraOf M) (mt_extraShock M) (mt_buyerOf M) (mt_buys M) (mt_part M) A H K h)), (3, .int (x4_piecesOf (mt_now M) A h))]) rfl ?_
  refine z_iload_n hX dX4_must_12 13 rfl (i := 2) rfl 2 rfl ?_
  refine z_if_ge hX dX4_must_13 16 rfl (tgt := 18) (by decide) (fun c1 => ?_) (fun c1 => ?_)
  ·
    refine z_aload_n hX dX4_must_18 19 rfl (i := 0) rfl 0 rfl ?_
    refine z_iload_n hX dX4_must_19 20 rfl (i := 1) rfl 1 rfl ?_
    refine z_iconst hX dX4_must_20 21 rfl zki_2 ?_
    refine z_callVp hX cwX4_175 (w := .int (mt_now M (10 + (5 * h) + 2))) (met_X4_houseOf hG hM.1 h 2 (by omega) (by omega)) hM.1.o rfl rfl dX4_must_21 24 rfl rfl rfl (Nat.le_of_ble_eq_true rfl) (by decide) ⟨Nat.zero_le _, Nat.zero_le _⟩ ?_
    refine z_iload_n hX dX4_must_24 25 rfl (i := 2) rfl 2 rfl ?_
    refine z_isub hX dX4_must_25 26 rfl (w := (mt_now M (10 + (5 * h) + 2)) - (x4_worthNow (mt_now M) (mt_sold M) (mt_fallen M) (mt_coins M) (mt_extraOf M) (mt_extraShock M) (mt_buyerOf M) (mt_buys M) (mt_part M) A H K h)) rfl ?_
    refine z_istore hX dX4_must_26 28 rfl (Nat.le_of_ble_eq_true rfl) rfl (L' := [(0, .ref o), (1, .int (nI h)), (2, .int (x4_worthNow (mt_now M) (mt_sold M) (mt_fallen M) (mt_coins M) (mt_extraOf M) (mt_extraShock M) (mt_buyerOf M) (mt_buys M) (mt_part M) A H K h)), (3, .int (x4_piecesOf (mt_now M) A h)), (4, .int ((mt_now M (10 + (5 * h) + 2)) - (x4_worthNow (mt_now M) (mt_sold M) (mt_fallen M) (mt_coins M) (mt_extraOf M) (mt_extraShock M) (mt_buyerOf M) (mt_buys M) (mt_part M) A H K h)))]) rfl ?_
    refine z_iload hX dX4_must_28 30 rfl 4 rfl ?_
    have J3 : ZW g X 0 0 G 55 [(0, .ref o), (1, .int (nI h)), (2, .int (x4_worthNow (mt_now M) (mt_sold M) (mt_fallen M) (mt_coins M) (mt_extraOf M) (mt_extraShock M) (mt_buyerOf M) (mt_buys M) (mt_part M) A H K h)), (3, .int (x4_piecesOf (mt_now M) A h)), (4, .int ((mt_now M (10 + (5 * h) + 2)) - (x4_worthNow (mt_now M) (mt_sold M) (mt_fallen M) (mt_coins M) (mt_extraOf M) (mt_extraShock M) (mt_buyerOf M) (mt_buys M) (mt_part M) A H K h)))] [.int (if 0 < ((mt_now M (10 + (5 * h) + 2)) - (x4_worthNow (mt_now M) (mt_sold M) (mt_fallen M) (mt_coins M) (mt_extraOf M) (mt_extraShock M) (mt_buyerOf M) (mt_buys M) (mt_part M) A H K h)) then ((((mt_now M (10 + (5 * h) + 2)) - (x4_worthNow (mt_now M) (mt_sold M) (mt_fallen M) (mt_coins M) (mt_extraOf M) (mt_extraShock M) (mt_buyerOf M) (mt_buys M) (mt_part M) A H K h)) + (mt_now M (10 + (5 * h) + 3))) - 1) / (mt_now M (10 + (5 * h) + 3)) else 0 : Int32)] := by
      refine z_istore hX dX4_must_55 57 rfl (Nat.le_of_ble_eq_true rfl) rfl (L' := [(0, .ref o), (1, .int (nI h)), (2, .int (x4_worthNow (mt_now M) (mt_sold M) (mt_fallen M) (mt_coins M) (mt_extraOf M) (mt_extraShock M) (mt_buyerOf M) (mt_buys M) (mt_part M) A H K h)), (3, .int (x4_piecesOf (mt_now M) A h)), (4, .int ((mt_now M (10 + (5 * h) + 2)) - (x4_worthNow (mt_now M) (mt_sold M) (mt_fallen M) (mt_coins M) (mt_extraOf M) (mt_extraShock M) (mt_buyerOf M) (mt_buys M) (mt_part M) A H K h))), (5, .int (if 0 < ((mt_now M (10 + (5 * h) + 2)) - (x4_worthNow (mt_now M) (mt_sold M) (mt_fallen M) (mt_coins M) (mt_extraOf M) (mt_extraShock M) (mt_buyerOf M) (mt_buys M) (mt_part M) A H K h)) then ((((mt_now M (10 + (5 * h) + 2)) - (x4_worthNow (mt_now M) (mt_sold M) (mt_fallen M) (mt_coins M) (mt_extraOf M) (mt_extraShock M) (mt_buyerOf M) (mt_buys M) (mt_part M) A H K h)) + (mt_now M (10 + (5 * h) + 3))) - 1) / (mt_now M (10 + (5 * h) + 3)) else 0 : Int32))]) rfl ?_
      refine z_iload hX dX4_must_57 59 rfl 5 rfl ?_
      refine z_iload_n hX dX4_must_59 60 rfl (i := 3) rfl 3 rfl ?_
      have J5 : ZW g X 0 0 G 69 [(0, .ref o), (1, .int (nI h)), (2, .int (x4_worthNow (mt_now M) (mt_sold M) (mt_fallen M) (mt_coins M) (mt_extraOf M) (mt_extraShock M) (mt_buyerOf M) (mt_buys M) (mt_part M) A H K h)), (3, .int (x4_piecesOf (mt_now M) A h)), (4, .int ((mt_now M (10 + (5 * h) + 2)) - (x4_worthNow (mt_now M) (mt_sold M) (mt_fallen M) (mt_coins M) (mt_extraOf M) (mt_extraShock M) (mt_buyerOf M) (mt_buys M) (mt_part M) A H K h))), (5, .int (if 0 < ((mt_now M (10 + (5 * h) + 2)) - (x4_worthNow (mt_now M) (mt_sold M) (mt_fallen M) (mt_coins M) (mt_extraOf M) (mt_extraShock M) (mt_buyerOf M) (mt_buys M) (mt_part M) A H K h)) then ((((mt_now M (10 + (5 * h) + 2)) - (x4_worthNow (mt_now M) (mt_sold M) (mt_fallen M) (mt_coins M) (mt_extraOf M) (mt_extraShock M) (mt_buyerOf M) (mt_buys M) (mt_part M) A H K h)) + (mt_now M (10 + (5 * h) + 3))) - 1) / (mt_now M (10 + (5 * h) + 3)) else 0 : Int32))] [.int (if (x4_piecesOf (mt_now M) A h) ≤ (if 0 < ((mt_now M (10 + (5 * h) + 2)) - (x4_worthNow (mt_now M) (mt_sold M) (mt_fallen M) (mt_coins M) (mt_extraOf M) (mt_extraShock M) (mt_buyerOf M) (mt_buys M) (mt_part M) A H K h)) then ((((mt_now M (10 + (5 * h) + 2)) - (x4_worthNow (mt_now M) (mt_sold M) (mt_fallen M) (mt_coins M) (mt_extraOf M) (mt_extraShock M) (mt_buyerOf M) (mt_buys M) (mt_part M) A H K h)) + (mt_now M (10 + (5 * h) + 3))) - 1) / (mt_now M (10 + (5 * h) + 3)) else 0 : Int32) then x4_piecesOf (mt_now M) A h else (if 0 < ((mt_now M (10 + (5 * h) + 2)) - (x4_worthNow (mt_now M) (mt_sold M) (mt_fallen M) (mt_coins M) (mt_extraOf M) (mt_extraShock M) (mt_buyerOf M) (mt_buys M) (mt_part M) A H K h)) then ((((mt_now M (10 + (5 * h) + 2)) - (x4_worthNow (mt_now M) (mt_sold M) (mt_fallen M) (mt_coins M) (mt_extraOf M) (mt_extraShock M) (mt_buyerOf M) (mt_buys M) (mt_part M) A H K h)) + (mt_now M (10 + (5 * h) + 3))) - 1) / (mt_now M (10 + (5 * h) + 3)) else 0 : Int32) : Int32)] := by
        exact z_iret hX hQ (Nat.zero_le _) (Nat.zero_le _) rfl dX4_must_69 ⟨(by first | (simp only [if_pos c1] <;> rfl; done) | grind), rfl⟩
      refine z_icmp_ge hX dX4_must_60 63 rfl (tgt := 68) (by decide) (fun c4 => ?_) (fun c4 => ?_)
      ·
        refine z_iload_n hX dX4_must_68 69 rfl (i := 3) rfl 3 rfl ?_
        exact z_eqL rfl (by first | (simp only [if_pos c1, if_pos c4] <;> rfl; done) | grind) J5
      ·
        refine z_iload hX dX4_must_63 65 rfl 5 rfl ?_
        refine z_goto hX dX4_must_65 (tgt := 69) (by decide) ?_
        exact z_eqL rfl (by first | (simp only [if_pos c1, if_neg c4] <;> rfl; done) | grind) J5
    refine z_if_gt hX dX4_must_30 33 rfl (tgt := 37) (by decide) (fun c2 => ?_) (fun c2 => ?_)
    ·
      refine z_iload hX dX4_must_37 39 rfl 4 rfl ?_
      refine z_aload_n hX dX4_must_39 40 rfl (i := 0) rfl 0 rfl ?_
      refine z_iload_n hX dX4_must_40 41 rfl (i := 1) rfl 1 rfl ?_
      refine z_iconst hX dX4_must_41 42 rfl zki_3 ?_
      refine z_callVp hX cwX4_175 (w := .int (mt_now M (10 + (5 * h) + 3))) (met_X4_houseOf hG hM.1 h 3 (by omega) (by omega)) hM.1.o rfl rfl dX4_must_42 45 rfl rfl rfl (Nat.le_of_ble_eq_true rfl) (by decide) ⟨Nat.zero_le _, Nat.zero_le _⟩ ?_
      refine z_iadd hX dX4_must_45 46 rfl (w := ((mt_now M (10 + (5 * h) + 2)) - (x4_worthNow (mt_now M) (mt_sold M) (mt_fallen M) (mt_coins M) (mt_extraOf M) (mt_extraShock M) (mt_buyerOf M) (mt_buys M) (mt_part M) A H K h)) + (mt_now M (10 + (5 * h) + 3))) rfl ?_
      refine z_iconst hX dX4_must_46 47 rfl zki_1 ?_
      refine z_isub hX dX4_must_47 48 rfl (w := (((mt_now M (10 + (5 * h) + 2)) - (x4_worthNow (mt_now M) (mt_sold M) (mt_fallen M) (mt_coins M) (mt_extraOf M) (mt_extraShock M) (mt_buyerOf M) (mt_buys M) (mt_part M) A H K h)) + (mt_now M (10 + (5 * h) + 3))) - 1) rfl ?_
      refine z_aload_n hX dX4_must_48 49 rfl (i := 0) rfl 0 rfl ?_
      refine z_iload_n hX dX4_must_49 50 rfl (i := 1) rfl 1 rfl ?_
      refine z_iconst hX dX4_must_50 51 rfl zki_3 ?_
      refine z_callVp hX cwX4_175 (w := .int (mt_now M (10 + (5 * h) + 3))) (met_X4_houseOf hG hM.1 h 3 (by omega) (by omega)) hM.1.o rfl rfl dX4_must_51 54 rfl rfl rfl (Nat.le_of_ble_eq_true rfl) (by decide) ⟨Nat.zero_le _, Nat.zero_le _⟩ ?_
      refine z_idiv hX dX4_must_54 55 rfl (by assumption) (w := ((((mt_now M (10 + (5 * h) + 2)) - (x4_worthNow (mt_now M) (mt_sold M) (mt_fallen M) (mt_coins M) (mt_extraOf M) (mt_extraShock M) (mt_buyerOf M) (mt_buys M) (mt_part M) A H K h)) + (mt_now M (10 + (5 * h) + 3))) - 1) / (mt_now M (10 + (5 * h) + 3))) rfl ?_
      exact z_eqL rfl (by first | (simp only [if_pos c1, if_pos c2] <;> rfl; done) | grind) J3
    ·
      refine z_iconst hX dX4_must_33 34 rfl zki_0 ?_
      refine z_goto hX dX4_must_34 (tgt := 55) (by decide) ?_
      exact z_eqL rfl (by first | (simp only [if_pos c1, if_neg c2] <;> rfl; done) | grind) J3
  ·
    refine z_iload_n hX dX4_must_16 17 rfl (i := 3) rfl 3 rfl ?_
    exact z_iret hX hQ (Nat.zero_le _) (Nat.zero_le _) rfl dX4_must_17 ⟨(by first | (simp only [if_neg c1] <;> rfl; done) | grind), rfl⟩
def x4_left0 (m_now : Nat → Int32) (h : Nat) (many : Int32) (k : Nat) : Int32 := zfold k (fun j c => c - (if c ≤ m_now (40 + (4 * h) + j) then c else m_now (40 + (4 * h) + j))) many
def x4_left1 (m_now : Nat → Int32) (A h : Nat) (many : Int32) (k : Nat) : Int32 := zfold k (fun j c => c - (if c ≤ m_now (40 + (4 * h) + (A - 1 - j)) then c else m_now (40 + (4 * h) + (A - 1 - j)))) many
def x4_mustOf (m_now : Nat → Int32) (A : Nat) (h : Nat) (asset : Nat) (many : Int32) : Int32 := if m_now (10 + (5 * h) + 4) = 0 then (if x4_left0 m_now h many asset ≤ m_now (40 + (4 * h) + asset) then x4_left0 m_now h many asset else m_now (40 + (4 * h) + asset)) else (if x4_left1 m_now A h many (A - 1 - asset) ≤ m_now (40 + (4 * h) + (A - 1 - (A - 1 - asset))) then x4_left1 m_now A h many (A - 1 - asset) else m_now (40 + (4 * h) + (A - 1 - (A - 1 - asset))))
set_option maxHeartbeats 4000000 in
theorem met_X4_mustOf {g : Zg} (hG : zG g) {G : zHG} {o : Nat} {M : MT} (hM : zMo g G o M) {A H : Nat} {K : Nat → Nat} (hN : zWf (mt_now M) A H K) (h asset : Nat) (many : Int32) (h_h : h < 6) (h_a : asset < A) : ZM g yX4_mustOf cX4_mustOf 8 (some .int) 2 0 0 [.ref o, .int (nI h), .int (nI asset), .int many] G (zRet (some (.int (x4_mustOf (mt_now M) A h asset many))) G) := by
  have hN2 := hN.2.1
  have hN4 := hN.2.2.2.1
  have hM : zMs g G G o M := zMs.rf hM
  refine ZM_mk hG (by decide) (Nat.le_of_ble_eq_true rfl) ?_
  intro X hX hname hQ
  unfold x4_mustOf at hQ
  show ZW g X 0 0 G 0 [(0, .ref o), (1, .int (nI h)), (2, .int (nI asset)), (3, .int many)] []
  by_cases hw : mt_now M (10 + (5 * h) + 4) = 0
  ·
    rw [if_pos hw] at hQ
    refine z_iload_n hX dX4_mustOf_0 1 rfl (i := 3) rfl 3 rfl ?_
    refine z_istore hX dX4_mustOf_1 3 rfl (Nat.le_of_ble_eq_true rfl) rfl (L' := [(0, .ref o), (1, .int (nI h)), (2, .int (nI asset)), (3, .int many), (4, .int many)]) rfl ?_
    refine z_iconst hX dX4_mustOf_3 4 rfl zki_0 ?_
    refine z_istore hX dX4_mustOf_4 6 rfl (Nat.le_of_ble_eq_true rfl) rfl (L' := [(0, .ref o), (1, .int (nI h)), (2, .int (nI asset)), (3, .int many), (4, .int many), (5, .int 0)]) rfl ?_
    have Lp : ∀ k j : Nat, j + k = asset → ZW g X 0 0 G 6 [(0, .ref o), (1, .int (nI h)), (2, .int (nI asset)), (3, .int many), (4, .int (x4_left0 (mt_now M) h many j)), (5, .int (nI j))] [] := by
      intro k
      induction k with
      | zero =>
        intro j hj
        rw [show j = asset from by omega]
        refine z_iload hX dX4_mustOf_6 8 rfl 5 rfl ?_
        refine z_aload_n hX dX4_mustOf_8 9 rfl (i := 0) rfl 0 rfl ?_
        refine z_getf hX fX4_7 hM.1.o dX4_mustOf_9 12 rfl (x := .ref (o + 1)) rfl ?_
        refine z_iconst hX dX4_mustOf_12 13 rfl zki_0 ?_
        refine m_ald_now hX hM 0 (by omega) dX4_mustOf_13 14 rfl (w := nI A) hN.1 ?_
        refine z_icmp_geN hX asset A (by omega) (by omega) dX4_mustOf_14 17 rfl (tgt := 92) (by decide) (fun c1 => ?_) (fun c1 => ?_)
        · exact absurd c1 (by omega)
        refine z_aload_n hX dX4_mustOf_17 18 rfl (i := 0) rfl 0 rfl ?_
        refine z_iload_n hX dX4_mustOf_18 19 rfl (i := 1) rfl 1 rfl ?_
        refine z_iconst hX dX4_mustOf_19 20 rfl zki_4 ?_
        refine z_callVp hX cwX4_175 (w := .int (mt_now M (10 + (5 * h) + 4))) (met_X4_houseOf hG hM.1 h 4 (by omega) (by omega)) hM.1.o rfl rfl dX4_mustOf_20 23 rfl rfl rfl (Nat.le_of_ble_eq_true rfl) (by decide) ⟨Nat.zero_le _, Nat.zero_le _⟩ ?_
        refine z_if_ne hX dX4_mustOf_23 26 rfl (tgt := 31) (by decide) (fun c2 => ?_) (fun c2 => ?_)
        · exact absurd hw c2
        refine z_iload hX dX4_mustOf_26 28 rfl 5 rfl ?_
        refine z_goto hX dX4_mustOf_28 (tgt := 42) (by decide) ?_
        refine z_istore hX dX4_mustOf_42 44 rfl (Nat.le_of_ble_eq_true rfl) rfl (L' := [(0, .ref o), (1, .int (nI h)), (2, .int (nI asset)), (3, .int many), (4, .int (x4_left0 (mt_now M) h many asset)), (5, .int (nI asset)), (6, .int (nI asset))]) rfl ?_
        refine z_aload_n hX dX4_mustOf_44 45 rfl (i := 0) rfl 0 rfl ?_
        refine z_iload_n hX dX4_mustOf_45 46 rfl (i := 1) rfl 1 rfl ?_
        refine z_iload hX dX4_mustOf_46 48 rfl 6 rfl ?_
        refine z_callVp hX cwX4_72 (w := .int (mt_now M (40 + (4 * h) + asset))) (met_X4_holds hG hM.1 h asset (by omega) (by omega)) hM.1.o rfl rfl dX4_mustOf_48 51 rfl rfl rfl (Nat.le_of_ble_eq_true rfl) (by decide) ⟨Nat.zero_le _, Nat.zero_le _⟩ ?_
        refine z_iload hX dX4_mustOf_51 53 rfl 4 rfl ?_
        have J4 : ZW g X 0 0 G 68 [(0, .ref o), (1, .int (nI h)), (2, .int (nI asset)), (3, .int many), (4, .int (x4_left0 (mt_now M) h many asset)), (5, .int (nI asset)), (6, .int (nI asset))] [.int (if (x4_left0 (mt_now M) h many asset) ≤ (mt_now M (40 + (4 * h) + asset)) then x4_left0 (mt_now M) h many asset else mt_now M (40 + (4 * h) + asset) : Int32)] := by
          refine z_istore hX dX4_mustOf_68 70 rfl (Nat.le_of_ble_eq_true rfl) rfl (L' := [(0, .ref o), (1, .int (nI h)), (2, .int (nI asset)), (3, .int many), (4, .int (x4_left0 (mt_now M) h many asset)), (5, .int (nI asset)), (6, .int (nI asset)), (7, .int (if (x4_left0 (mt_now M) h many asset) ≤ (mt_now M (40 + (4 * h) + asset)) then x4_left0 (mt_now M) h many asset else mt_now M (40 + (4 * h) + asset) : Int32))]) rfl ?_
          refine z_iload hX dX4_mustOf_70 72 rfl 6 rfl ?_
          refine z_iload_n hX dX4_mustOf_72 73 rfl (i := 2) rfl 2 rfl ?_
          refine z_icmp_neN hX asset asset (by omega) (by omega) dX4_mustOf_73 76 rfl (tgt := 79) (by decide) (fun c5 => ?_) (fun c5 => ?_)
          · exact absurd (by omega) c5
          refine z_iload hX dX4_mustOf_76 78 rfl 7 rfl ?_
          exact z_iret hX hQ (Nat.zero_le _) (Nat.zero_le _) rfl dX4_mustOf_78 ⟨(by rfl), rfl⟩
        refine z_icmp_ge hX dX4_mustOf_53 56 rfl (tgt := 66) (by decide) (fun c3 => ?_) (fun c3 => ?_)
        ·
          refine z_iload hX dX4_mustOf_66 68 rfl 4 rfl ?_
          exact z_eqL rfl (by first | (simp only [if_pos c3] <;> rfl; done) | grind) J4
        ·
          refine z_aload_n hX dX4_mustOf_56 57 rfl (i := 0) rfl 0 rfl ?_
          refine z_iload_n hX dX4_mustOf_57 58 rfl (i := 1) rfl 1 rfl ?_
          refine z_iload hX dX4_mustOf_58 60 rfl 6 rfl ?_
          refine z_callVp hX cwX4_72 (w := .int (mt_now M (40 + (4 * h) + asset))) (met_X4_holds hG hM.1 h asset (by omega) (by omega)) hM.1.o rfl rfl dX4_mustOf_60 63 rfl rfl rfl (Nat.le_of_ble_eq_true rfl) (by decide) ⟨Nat.zero_le _, Nat.zero_le _⟩ ?_
          refine z_goto hX dX4_mustOf_63 (tgt := 68) (by decide) ?_
          exact z_eqL rfl (by first | (simp only [if_neg c3] <;> rfl; done) | grind) J4
      | succ k ih =>
        intro j hj
        refine z_iload hX dX4_mustOf_6 8 rfl 5 rfl ?_
        refine z_aload_n hX dX4_mustOf_8 9 rfl (i := 0) rfl 0 rfl ?_
        refine z_getf hX fX4_7 hM.1.o dX4_mustOf_9 12 rfl (x := .ref (o + 1)) rfl ?_
        refine z_iconst hX dX4_mustOf_12 13 rfl zki_0 ?_
        refine m_ald_now hX hM 0 (by omega) dX4_mustOf_13 14 rfl (w := nI A) hN.1 ?_
        refine z_icmp_geN hX j A (by omega) (by omega) dX4_mustOf_14 17 rfl (tgt := 92) (by decide) (fun c6 => ?_) (fun c6 => ?_)
        · exact absurd c6 (by omega)
        refine z_aload_n hX dX4_mustOf_17 18 rfl (i := 0) rfl 0 rfl ?_
        refine z_iload_n hX dX4_mustOf_18 19 rfl (i := 1) rfl 1 rfl ?_
        refine z_iconst hX dX4_mustOf_19 20 rfl zki_4 ?_
        refine z_callVp hX cwX4_175 (w := .int (mt_now M (10 + (5 * h) + 4))) (met_X4_houseOf hG hM.1 h 4 (by omega) (by omega)) hM.1.o rfl rfl dX4_mustOf_20 23 rfl rfl rfl (Nat.le_of_ble_eq_true rfl) (by decide) ⟨Nat.zero_le _, Nat.zero_le _⟩ ?_
        refine z_if_ne hX dX4_mustOf_23 26 rfl (tgt := 31) (by decide) (fun c7 => ?_) (fun c7 => ?_)
        · exact absurd hw c7
        refine z_iload hX dX4_mustOf_26 28 rfl 5 rfl ?_
        refine z_goto hX dX4_mustOf_28 (tgt := 42) (by decide) ?_
        refine z_istore hX dX4_mustOf_42 44 rfl (Nat.le_of_ble_eq_true rfl) rfl (L' := [(0, .ref o), (1, .int (nI h)), (2, .int (nI asset)), (3, .int many), (4, .int (x4_left0 (mt_now M) h many j)), (5, .int (nI j)), (6, .int (nI j))]) rfl ?_
        refine z_aload_n hX dX4_mustOf_44 45 rfl (i := 0) rfl 0 rfl ?_
        refine z_iload_n hX dX4_mustOf_45 46 rfl (i := 1) rfl 1 rfl ?_
        refine z_iload hX dX4_mustOf_46 48 rfl 6 rfl ?_
        refine z_callVp hX cwX4_72 (w := .int (mt_now M (40 + (4 * h) + j))) (met_X4_holds hG hM.1 h j (by omega) (by omega)) hM.1.o rfl rfl dX4_mustOf_48 51 rfl rfl rfl (Nat.le_of_ble_eq_true rfl) (by decide) ⟨Nat.zero_le _, Nat.zero_le _⟩ ?_
        refine z_iload hX dX4_mustOf_51 53 rfl 4 rfl ?_
        have J9 : ZW g X 0 0 G 68 [(0, .ref o), (1, .int (nI h)), (2, .int (nI asset)), (3, .int many), (4, .int (x4_left0 (mt_now M) h many j)), (5, .int (nI j)), (6, .int (nI j))] [.int (if (x4_left0 (mt_now M) h many j) ≤ (mt_now M (40 + (4 * h) + j)) then x4_left0 (mt_now M) h many j else mt_now M (40 + (4 * h) + j) : Int32)] := by
          refine z_istore hX dX4_mustOf_68 70 rfl (Nat.le_of_ble_eq_true rfl) rfl (L' := [(0, .ref o), (1, .int (nI h)), (2, .int (nI asset)), (3, .int many), (4, .int (x4_left0 (mt_now M) h many j)), (5, .int (nI j)), (6, .int (nI j)), (7, .int (if (x4_left0 (mt_now M) h many j) ≤ (mt_now M (40 + (4 * h) + j)) then x4_left0 (mt_now M) h many j else mt_now M (40 + (4 * h) + j) : Int32))]) rfl ?_
          refine z_iload hX dX4_mustOf_70 72 rfl 6 rfl ?_
          refine z_iload_n hX dX4_mustOf_72 73 rfl (i := 2) rfl 2 rfl ?_
          refine z_icmp_neN hX j asset (by omega) (by omega) dX4_mustOf_73 76 rfl (tgt := 79) (by decide) (fun c10 => ?_) (fun c10 => ?_)
          rotate_left 1
          · exact absurd c10 (by omega)
          refine z_iload hX dX4_mustOf_79 81 rfl 4 rfl ?_
          refine z_iload hX dX4_mustOf_81 83 rfl 7 rfl ?_
          refine z_isub hX dX4_mustOf_83 84 rfl (w := (x4_left0 (mt_now M) h many j) - (if (x4_left0 (mt_now M) h many j) ≤ (mt_now M (40 + (4 * h) + j)) then x4_left0 (mt_now M) h many j else mt_now M (40 + (4 * h) + j) : Int32)) rfl ?_
          refine z_istore hX dX4_mustOf_84 86 rfl (Nat.le_of_ble_eq_true rfl) rfl (L' := [(0, .ref o), (1, .int (nI h)), (2, .int (nI asset)), (3, .int many), (4, .int ((x4_left0 (mt_now M) h many j) - (if (x4_left0 (mt_now M) h many j) ≤ (mt_now M (40 + (4 * h) + j)) then x4_left0 (mt_now M) h many j else mt_now M (40 + (4 * h) + j) : Int32))), (5, .int (nI j)), (6, .int (nI j)), (7, .int (if (x4_left0 (mt_now M) h many j) ≤ (mt_now M (40 + (4 * h) + j)) then x4_left0 (mt_now M) h many j else mt_now M (40 + (4 * h) + j) : Int32))]) rfl ?_
          refine z_iinc hX dX4_mustOf_86 89 rfl 5 rfl (w := nI (j + 1)) (nI_1 j) (Nat.le_of_ble_eq_true rfl) rfl (L' := [(0, .ref o), (1, .int (nI h)), (2, .int (nI asset)), (3, .int many), (4, .int ((x4_left0 (mt_now M) h many j) - (if (x4_left0 (mt_now M) h many j) ≤ (mt_now M (40 + (4 * h) + j)) then x4_left0 (mt_now M) h many j else mt_now M (40 + (4 * h) + j) : Int32))), (5, .int (nI (j + 1))), (6, .int (nI j)), (7, .int (if (x4_left0 (mt_now M) h many j) ≤ (mt_now M (40 + (4 * h) + j)) then x4_left0 (mt_now M) h many j else mt_now M (40 + (4 * h) + j) : Int32))]) rfl ?_
          refine z_goto hX dX4_mustOf_89 (tgt := 6) (by decide) ?_
          refine z_sub [0, 1, 2, 3, 4, 5] rfl ?_
          exact ih (j + 1) (by omega)
        refine z_icmp_ge hX dX4_mustOf_53 56 rfl (tgt := 66) (by decide) (fun c8 => ?_) (fun c8 => ?_)
        ·
          refine z_iload hX dX4_mustOf_66 68 rfl 4 rfl ?_
          exact z_eqL rfl (by first | (simp only [if_pos c8] <;> rfl; done) | grind) J9
        ·
          refine z_aload_n hX dX4_mustOf_56 57 rfl (i := 0) rfl 0 rfl ?_
          refine z_iload_n hX dX4_mustOf_57 58 rfl (i := 1) rfl 1 rfl ?_
          refine z_iload hX dX4_mustOf_58 60 rfl 6 rfl ?_
          refine z_callVp hX cwX4_72 (w := .int (mt_now M (40 + (4 * h) + j))) (met_X4_holds hG hM.1 h j (by omega) (by omega)) hM.1.o rfl rfl dX4_mustOf_60 63 rfl rfl rfl (Nat.le_of_ble_eq_true rfl) (by decide) ⟨Nat.zero_le _, Nat.zero_le _⟩ ?_
          refine z_goto hX dX4_mustOf_63 (tgt := 68) (by decide) ?_
          exact z_eqL rfl (by first | (simp only [if_neg c8] <;> rfl; done) | grind) J9
    exact Lp (asset) 0 (by omega)
  ·
    rw [if_neg hw] at hQ
    refine z_iload_n hX dX4_mustOf_0 1 rfl (i := 3) rfl 3 rfl ?_
    refine z_istore hX dX4_mustOf_1 3 rfl (Nat.le_of_ble_eq_true rfl) rfl (L' := [(0, .ref o), (1, .int (nI h)), (2, .int (nI asset)), (3, .int many), (4, .int many)]) rfl ?_
    refine z_iconst hX dX4_mustOf_3 4 rfl zki_0 ?_
    refine z_istore hX dX4_mustOf_4 6 rfl (Nat.le_of_ble_eq_true rfl) rfl (L' := [(0, .ref o), (1, .int (nI h)), (2, .int (nI asset)), (3, .int many), (4, .int many), (5, .int 0)]) rfl ?_
    have Lp : ∀ k j : Nat, j + k = A - 1 - asset → ZW g X 0 0 G 6 [(0, .ref o), (1, .int (nI h)), (2, .int (nI asset)), (3, .int many), (4, .int (x4_left1 (mt_now M) A h many j)), (5, .int (nI j))] [] := by
      intro k
      induction k with
      | zero =>
        intro j hj
        rw [show j = A - 1 - asset from by omega]
        refine z_iload hX dX4_mustOf_6 8 rfl 5 rfl ?_
        refine z_aload_n hX dX4_mustOf_8 9 rfl (i := 0) rfl 0 rfl ?_
        refine z_getf hX fX4_7 hM.1.o dX4_mustOf_9 12 rfl (x := .ref (o + 1)) rfl ?_
        refine z_iconst hX dX4_mustOf_12 13 rfl zki_0 ?_
        refine m_ald_now hX hM 0 (by omega) dX4_mustOf_13 14 rfl (w := nI A) hN.1 ?_
        refine z_icmp_geN hX (A - 1 - asset) A (by omega) (by omega) dX4_mustOf_14 17 rfl (tgt := 92) (by decide) (fun c1 => ?_) (fun c1 => ?_)
        · exact absurd c1 (by omega)
        refine z_aload_n hX dX4_mustOf_17 18 rfl (i := 0) rfl 0 rfl ?_
        refine z_iload_n hX dX4_mustOf_18 19 rfl (i := 1) rfl 1 rfl ?_
        refine z_iconst hX dX4_mustOf_19 20 rfl zki_4 ?_
        refine z_callVp hX cwX4_175 (w := .int (mt_now M (10 + (5 * h) + 4))) (met_X4_houseOf hG hM.1 h 4 (by omega) (by omega)) hM.1.o rfl rfl dX4_mustOf_20 23 rfl rfl rfl (Nat.le_of_ble_eq_true rfl) (by decide) ⟨Nat.zero_le _, Nat.zero_le _⟩ ?_
        refine z_if_ne hX dX4_mustOf_23 26 rfl (tgt := 31) (by decide) (fun c2 => ?_) (fun c2 => ?_)
        rotate_left 1
        · exact absurd c2 hw
        refine z_aload_n hX dX4_mustOf_31 32 rfl (i := 0) rfl 0 rfl ?_
        refine z_getf hX fX4_7 hM.1.o dX4_mustOf_32 35 rfl (x := .ref (o + 1)) rfl ?_
        refine z_iconst hX dX4_mustOf_35 36 rfl zki_0 ?_
        refine m_ald_now hX hM 0 (by omega) dX4_mustOf_36 37 rfl (w := nI A) hN.1 ?_
        refine z_iconst hX dX4_mustOf_37 38 rfl zki_1 ?_
        refine z_isub hX dX4_mustOf_38 39 rfl (w := nI (A - 1)) (pk_sub (a := A) (b := 1) (by omega)) ?_
        refine z_iload hX dX4_mustOf_39 41 rfl 5 rfl ?_
        refine z_isub hX dX4_mustOf_41 42 rfl (w := nI (A - 1 - (A - 1 - asset))) (pk_sub (a := A - 1) (b := A - 1 - asset) (by omega)) ?_
        refine z_istore hX dX4_mustOf_42 44 rfl (Nat.le_of_ble_eq_true rfl) rfl (L' := [(0, .ref o), (1, .int (nI h)), (2, .int (nI asset)), (3, .int many), (4, .int (x4_left1 (mt_now M) A h many (A - 1 - asset))), (5, .int (nI (A - 1 - asset))), (6, .int (nI (A - 1 - (A - 1 - asset))))]) rfl ?_
        refine z_aload_n hX dX4_mustOf_44 45 rfl (i := 0) rfl 0 rfl ?_
        refine z_iload_n hX dX4_mustOf_45 46 rfl (i := 1) rfl 1 rfl ?_
        refine z_iload hX dX4_mustOf_46 48 rfl 6 rfl ?_
        refine z_callVp hX cwX4_72 (w := .int (mt_now M (40 + (4 * h) + (A - 1 - (A - 1 - asset))))) (met_X4_holds hG hM.1 h (A - 1 - (A - 1 - asset)) (by omega) (by omega)) hM.1.o rfl rfl dX4_mustOf_48 51 rfl rfl rfl (Nat.le_of_ble_eq_true rfl) (by decide) ⟨Nat.zero_le _, Nat.zero_le _⟩ ?_
        refine z_iload hX dX4_mustOf_51 53 rfl 4 rfl ?_
        have J4 : ZW g X 0 0 G 68 [(0, .ref o), (1, .int (nI h)), (2, .int (nI asset)), (3, .int many), (4, .int (x4_left1 (mt_now M) A h many (A - 1 - asset))), (5, .int (nI (A - 1 - asset))), (6, .int (nI (A - 1 - (A - 1 - asset))))] [.int (if (x4_left1 (mt_now M) A h many (A - 1 - asset)) ≤ (mt_now M (40 + (4 * h) + (A - 1 - (A - 1 - asset)))) then x4_left1 (mt_now M) A h many (A - 1 - asset) else mt_now M (40 + (4 * h) + (A - 1 - (A - 1 - asset))) : Int32)] := by
          refine z_istore hX dX4_mustOf_68 70 rfl (Nat.le_of_ble_eq_true rfl) rfl (L' := [(0, .ref o), (1, .int (nI h)), (2, .int (nI asset)), (3, .int many), (4, .int (x4_left1 (mt_now M) A h many (A - 1 - asset))), (5, .int (nI (A - 1 - asset))), (6, .int (nI (A - 1 - (A - 1 - asset)))), (7, .int (if (x4_left1 (mt_now M) A h many (A - 1 - asset)) ≤ (mt_now M (40 + (4 * h) + (A - 1 - (A - 1 - asset)))) then x4_left1 (mt_now M) A h many (A - 1 - asset) else mt_now M (40 + (4 * h) + (A - 1 - (A - 1 - asset))) : Int32))]) rfl ?_
          refine z_iload hX dX4_mustOf_70 72 rfl 6 rfl ?_
          refine z_iload_n hX dX4_mustOf_72 73 rfl (i := 2) rfl 2 rfl ?_
          refine z_icmp_neN hX (A - 1 - (A - 1 - asset)) asset (by omega) (by omega) dX4_mustOf_73 76 rfl (tgt := 79) (by decide) (fun c5 => ?_) (fun c5 => ?_)
          · exact absurd (by omega) c5
          refine z_iload hX dX4_mustOf_76 78 rfl 7 rfl ?_
          exact z_iret hX hQ (Nat.zero_le _) (Nat.zero_le _) rfl dX4_mustOf_78 ⟨(by rfl), rfl⟩
        refine z_icmp_ge hX dX4_mustOf_53 56 rfl (tgt := 66) (by decide) (fun c3 => ?_) (fun c3 => ?_)
        ·
          refine z_iload hX dX4_mustOf_66 68 rfl 4 rfl ?_
          exact z_eqL rfl (by first | (simp only [if_pos c3] <;> rfl; done) | grind) J4
        ·
          refine z_aload_n hX dX4_mustOf_56 57 rfl (i := 0) rfl 0 rfl ?_
          refine z_iload_n hX dX4_mustOf_57 58 rfl (i := 1) rfl 1 rfl ?_
          refine z_iload hX dX4_mustOf_58 60 rfl 6 rfl ?_
          refine z_callVp hX cwX4_72 (w := .int (mt_now M (40 + (4 * h) + (A - 1 - (A - 1 - asset))))) (met_X4_holds hG hM.1 h (A - 1 - (A - 1 - asset)) (by omega) (by omega)) hM.1.o rfl rfl dX4_mustOf_60 63 rfl rfl rfl (Nat.le_of_ble_eq_true rfl) (by decide) ⟨Nat.zero_le _, Nat.zero_le _⟩ ?_
          refine z_goto hX dX4_mustOf_63 (tgt := 68) (by decide) ?_
          exact z_eqL rfl (by first | (simp only [if_neg c3] <;> rfl; done) | grind) J4
      | succ k ih =>
        intro j hj
        refine z_iload hX dX4_mustOf_6 8 rfl 5 rfl ?_
        refine z_aload_n hX dX4_mustOf_8 9 rfl (i := 0) rfl 0 rfl ?_
        refine z_getf hX fX4_7 hM.1.o dX4_mustOf_9 12 rfl (x := .ref (o + 1)) rfl ?_
        refine z_iconst hX dX4_mustOf_12 13 rfl zki_0 ?_
        refine m_ald_now hX hM 0 (by omega) dX4_mustOf_13 14 rfl (w := nI A) hN.1 ?_
        refine z_icmp_geN hX j A (by omega) (by omega) dX4_mustOf_14 17 rfl (tgt := 92) (by decide) (fun c6 => ?_) (fun c6 => ?_)
        · exact absurd c6 (by omega)
        refine z_aload_n hX dX4_mustOf_17 18 rfl (i := 0) rfl 0 rfl ?_
        refine z_iload_n hX dX4_mustOf_18 19 rfl (i := 1) rfl 1 rfl ?_
        refine z_iconst hX dX4_mustOf_19 20 rfl zki_4 ?_
        refine z_callVp hX cwX4_175 (w := .int (mt_now M (10 + (5 * h) + 4))) (met_X4_houseOf hG hM.1 h 4 (by omega) (by omega)) hM.1.o rfl rfl dX4_mustOf_20 23 rfl rfl rfl (Nat.le_of_ble_eq_true rfl) (by decide) ⟨Nat.zero_le _, Nat.zero_le _⟩ ?_
        refine z_if_ne hX dX4_mustOf_23 26 rfl (tgt := 31) (by decide) (fun c7 => ?_) (fun c7 => ?_)
        rotate_left 1
        · exact absurd c7 hw
        refine z_aload_n hX dX4_mustOf_31 32 rfl (i := 0) rfl 0 rfl ?_
        refine z_getf hX fX4_7 hM.1.o dX4_mustOf_32 35 rfl (x := .ref (o + 1)) rfl ?_
        refine z_iconst hX dX4_mustOf_35 36 rfl zki_0 ?_
        refine m_ald_now hX hM 0 (by omega) dX4_mustOf_36 37 rfl (w := nI A) hN.1 ?_
        refine z_iconst hX dX4_mustOf_37 38 rfl zki_1 ?_
        refine z_isub hX dX4_mustOf_38 39 rfl (w := nI (A - 1)) (pk_sub (a := A) (b := 1) (by omega)) ?_
        refine z_iload hX dX4_mustOf_39 41 rfl 5 rfl ?_
        refine z_isub hX dX4_mustOf_41 42 rfl (w := nI (A - 1 - j)) (pk_sub (a := A - 1) (b := j) (by omega)) ?_
        refine z_istore hX dX4_mustOf_42 44 rfl (Nat.le_of_ble_eq_true rfl) rfl (L' := [(0, .ref o), (1, .int (nI h)), (2, .int (nI asset)), (3, .int many), (4, .int (x4_left1 (mt_now M) A h many j)), (5, .int (nI j)), (6, .int (nI (A - 1 - j)))]) rfl ?_
        refine z_aload_n hX dX4_mustOf_44 45 rfl (i := 0) rfl 0 rfl ?_
        refine z_iload_n hX dX4_mustOf_45 46 rfl (i := 1) rfl 1 rfl ?_
        refine z_iload hX dX4_mustOf_46 48 rfl 6 rfl ?_
        refine z_callVp hX cwX4_72 (w := .int (mt_now M (40 + (4 * h) + (A - 1 - j)))) (met_X4_holds hG hM.1 h (A - 1 - j) (by omega) (by omega)) hM.1.o rfl rfl dX4_mustOf_48 51 rfl rfl rfl (Nat.le_of_ble_eq_true rfl) (by decide) ⟨Nat.zero_le _, Nat.zero_le _⟩ ?_
        refine z_iload hX dX4_mustOf_51 53 rfl 4 rfl ?_
        have J9 : ZW g X 0 0 G 68 [(0, .ref o), (1, .int (nI h)), (2, .int (nI asset)), (3, .int many), (4, .int (x4_left1 (mt_now M) A h many j)), (5, .int (nI j)), (6, .int (nI (A - 1 - j)))] [.int (if (x4_left1 (mt_now M) A h many j) ≤ (mt_now M (40 + (4 * h) + (A - 1 - j))) then x4_left1 (mt_now M) A h many j else mt_now M (40 + (4 * h) + (A - 1 - j)) : Int32)] := by
          refine z_istore hX dX4_mustOf_68 70 rfl (Nat.le_of_ble_eq_true rfl) rfl (L' := [(0, .ref o), (1, .int (nI h)), (2, .int (nI asset)), (3, .int many), (4, .int (x4_left1 (mt_now M) A h many j)), (5, .int (nI j)), (6, .int (nI (A - 1 - j))), (7, .int (if (x4_left1 (mt_now M) A h many j) ≤ (mt_now M (40 + (4 * h) + (A - 1 - j))) then x4_left1 (mt_now M) A h many j else mt_now M (40 + (4 * h) + (A - 1 - j)) : Int32))]) rfl ?_
          refine z_iload hX dX4_mustOf_70 72 rfl 6 rfl ?_
          refine z_iload_n hX dX4_mustOf_72 73 rfl (i := 2) rfl 2 rfl ?_
          refine z_icmp_neN hX (A - 1 - j) asset (by omega) (by omega) dX4_mustOf_73 76 rfl (tgt := 79) (by decide) (fun c10 => ?_) (fun c10 => ?_)
          rotate_left 1
          · exact absurd c10 (by omega)
          refine z_iload hX dX4_mustOf_79 81 rfl 4 rfl ?_
          refine z_iload hX dX4_mustOf_81 83 rfl 7 rfl ?_
          refine z_isub hX dX4_mustOf_83 84 rfl (w := (x4_left1 (mt_now M) A h many j) - (if (x4_left1 (mt_now M) A h many j) ≤ (mt_now M (40 + (4 * h) + (A - 1 - j))) then x4_left1 (mt_now M) A h many j else mt_now M (40 + (4 * h) + (A - 1 - j)) : Int32)) rfl ?_
          refine z_istore hX dX4_mustOf_84 86 rfl (Nat.le_of_ble_eq_true rfl) rfl (L' := [(0, .ref o), (1, .int (nI h)), (2, .int (nI asset)), (3, .int many), (4, .int ((x4_left1 (mt_now M) A h many j) - (if (x4_left1 (mt_now M) A h many j) ≤ (mt_now M (40 + (4 * h) + (A - 1 - j))) then x4_left1 (mt_now M) A h many j else mt_now M (40 + (4 * h) + (A - 1 - j)) : Int32))), (5, .int (nI j)), (6, .int (nI (A - 1 - j))), (7, .int (if (x4_left1 (mt_now M) A h many j) ≤ (mt_now M (40 + (4 * h) + (A - 1 - j))) then x4_left1 (mt_now M) A h many j else mt_now M (40 + (4 * h) + (A - 1 - j)) : Int32))]) rfl ?_
          refine z_iinc hX dX4_mustOf_86 89 rfl 5 rfl (w := nI (j + 1)) (nI_1 j) (Nat.le_of_ble_eq_true rfl) rfl (L' := [(0, .ref o), (1, .int (nI h)), (2, .int (nI asset)), (3, .int many), (4, .int ((x4_left1 (mt_now M) A h many j) - (if (x4_left1 (mt_now M) A h many j) ≤ (mt_now M (40 + (4 * h) + (A - 1 - j))) then x4_left1 (mt_now M) A h many j else mt_now M (40 + (4 * h) + (A - 1 - j)) : Int32))), (5, .int (nI (j + 1))), (6, .int (nI (A - 1 - j))), (7, .int (if (x4_left1 (mt_now M) A h many j) ≤ (mt_now M (40 + (4 * h) + (A - 1 - j))) then x4_left1 (mt_now M) A h many j else mt_now M (40 + (4 * h) + (A - 1 - j)) : Int32))]) rfl ?_
          refine z_goto hX dX4_mustOf_89 (tgt := 6) (by decide) ?_
          refine z_sub [0, 1, 2, 3, 4, 5] rfl ?_
          exact ih (j + 1) (by omega)
        refine z_icmp_ge hX dX4_mustOf_53 56 rfl (tgt := 66) (by decide) (fun c8 => ?_) (fun c8 => ?_)
        ·
          refine z_iload hX dX4_mustOf_66 68 rfl 4 rfl ?_
          exact z_eqL rfl (by first | (simp only [if_pos c8] <;> rfl; done) | grind) J9
        ·
          refine z_aload_n hX dX4_mustOf_56 57 rfl (i := 0) rfl 0 rfl ?_
          refine z_iload_n hX dX4_mustOf_57 58 rfl (i := 1) rfl 1 rfl ?_
          refine z_iload hX dX4_mustOf_58 60 rfl 6 rfl ?_
          refine z_callVp hX cwX4_72 (w := .int (mt_now M (40 + (4 * h) + (A - 1 - j)))) (met_X4_holds hG hM.1 h (A - 1 - j) (by omega) (by omega)) hM.1.o rfl rfl dX4_mustOf_60 63 rfl rfl rfl (Nat.le_of_ble_eq_true rfl) (by decide) ⟨Nat.zero_le _, Nat.zero_le _⟩ ?_
          refine z_goto hX dX4_mustOf_63 (tgt := 68) (by decide) ?_
          exact z_eqL rfl (by first | (simp only [if_neg c8] <;> rfl; done) | grind) J9
    exact Lp (A - 1 - asset) 0 (by omega)
