set_option maxRecDepth 100000
def x4_isWord_l8 (m_token : Int32) (F : Nat) (Z : Nat) : Nat := zfirst (fun j1 => ¬ (if (m_token) = 1 then if Z ≤ F + j1 then False else if F + 8 ≤ F + j1 then False else True else False)) 8
def x4_isWord_l8f (m_tape : Nat → Int32) (F : Nat) (ini : Int64) (k : Nat) : Int64 := zfold k (fun j1 cj1 => ((27 * cj1) + ((m_tape (F + j1)).toInt64)) - 96) ini
theorem x4_isWord_l8f_0 (m_tape : Nat → Int32) (F : Nat) (ini : Int64) : x4_isWord_l8f m_tape F ini 0 = ini := (zfold_0 _ _).trans (Eq.refl _)
abbrev x4_isWord (m_tape : Nat → Int32) (m_token : Int32) (x : Int64) (F : Nat) (Z : Nat) : Prop := ((m_token) = 1) ∧ (¬ (8 ≤ Z - F) ∧ (x4_isWord_l8f (m_tape) F 0 (x4_isWord_l8 (m_token) F Z) = x))
set_option maxHeartbeats 4000000 in
theorem met_X4_isWord {g : Zg} (hG : zG g) {G : zHG} {o : Nat} {M : MT} (hM : zMo g G o M) (x : Int64) (F : Nat) (Z : Nat)  (h_F : F < 801) (h_Z : Z < 801) (hfF : mt_from M = nI F) (hfZ : mt_at M = nI Z) (hf0 : F ≤ Z) : ZM g yX4_isWord cX4_isWord 6 (some FieldType.boolean) 1 0 0 [.ref o, .long x] G (zRet (some (.int (if x4_isWord (mt_tape M) (mt_token M) x F Z then 1 else 0))) G) := by
  have hM : zMs g G G o M := zMs.rf hM
  refine ZM_mk hG (by decide) (Nat.le_of_ble_eq_true rfl) ?_
  intro X hX hname hQ
  show ZW g X 0 0 G 0 [(0, .ref o), (1, .long x)] []
  refine z_lconst hX dX4_isWord_0 1 rfl (w := 0) rfl ?_
  refine z_lstore_n hX dX4_isWord_1 2 rfl (i := 3) rfl (Nat.le_of_ble_eq_true rfl) rfl (L' := [(0, .ref o), (1, .long x), (3, .long 0)]) rfl ?_
  refine z_aload_n hX dX4_isWord_2 3 rfl (i := 0) rfl 0 rfl ?_
  refine m_get_from hX hM fX4_88 dX4_isWord_3 6 rfl (w := nI F) hfF ?_
  refine z_istore hX dX4_isWord_6 8 rfl (Nat.le_of_ble_eq_true rfl) rfl (L' := [(0, .ref o), (1, .long x), (3, .long 0), (5, .int (nI F))]) rfl ?_
  have f2 : ¬ (if (mt_token M) = 1 then if Z ≤ F + 8 then False else if F + 8 ≤ F + 8 then False else True else False) := (by (repeat' split) <;> first | exact fun h => h | omega)
  have f3 : (x4_isWord_l8 (mt_token M) F Z) ≤ 8 := zfirst_le _ _
  have f4 : ∀ i : Nat, i < (x4_isWord_l8 (mt_token M) F Z) → if (mt_token M) = 1 then if Z ≤ F + i then False else if F + 8 ≤ F + i then False else True else False := fun i hi => Classical.not_not.mp (zfirst_no _ _ i hi)
  have f5 : ¬ (if (mt_token M) = 1 then if Z ≤ F + (x4_isWord_l8 (mt_token M) F Z) then False else if F + 8 ≤ F + (x4_isWord_l8 (mt_token M) F Z) then False else True else False) := zfirst_end (p := fun j1 => ¬ (if (mt_token M) = 1 then if Z ≤ F + j1 then False else if F + 8 ≤ F + j1 then False else True else False)) 8 f2
  have E6 : ZW g X 0 0 G 62 [(0, .ref o), (1, .long x), (3, .long (x4_isWord_l8f (mt_tape M) F 0 (x4_isWord_l8 (mt_token M) F Z))), (5, .int (nI (F + (x4_isWord_l8 (mt_token M) F Z))))] [] := by
    refine z_aload_n hX dX4_isWord_62 63 rfl (i := 0) rfl 0 rfl ?_
    refine m_get_token hX hM fX4_105 dX4_isWord_63 66 rfl (w := mt_token M) rfl ?_
    refine z_iconst hX dX4_isWord_66 67 rfl zki_1 ?_
    have J9 : ZW g X 0 0 G 95 [(0, .ref o), (1, .long x), (3, .long (x4_isWord_l8f (mt_tape M) F 0 (x4_isWord_l8 (mt_token M) F Z))), (5, .int (nI (F + (x4_isWord_l8 (mt_token M) F Z))))] [.int (if ((mt_token M) = 1) ∧ (¬ (8 ≤ Z - F) ∧ (x4_isWord_l8f (mt_tape M) F 0 (x4_isWord_l8 (mt_token M) F Z) = x)) then 1 else 0 : Int32)] := by
      exact z_zret hX hQ (Nat.zero_le _) (Nat.zero_le _) rfl (z_nb _) dX4_isWord_95 ⟨rfl, rfl⟩
    refine z_icmp_ne hX dX4_isWord_67 70 rfl (tgt := 94) (by decide) (fun c8 => ?_) (fun c8 => ?_)
    ·
      refine z_iconst hX dX4_isWord_94 95 rfl zki_0 ?_
      exact z_eqL rfl (by first | (simp only [if_neg c8] <;> rfl; done) | grind) J9
    ·
      refine z_aload_n hX dX4_isWord_70 71 rfl (i := 0) rfl 0 rfl ?_
      refine m_get_at hX hM fX4_85 dX4_isWord_71 74 rfl (w := nI Z) hfZ ?_
      refine z_aload_n hX dX4_isWord_74 75 rfl (i := 0) rfl 0 rfl ?_
      refine m_get_from hX hM fX4_88 dX4_isWord_75 78 rfl (w := nI F) hfF ?_
      refine z_isub hX dX4_isWord_78 79 rfl (w := nI (Z - F)) (pk_sub (a := Z) (b := F) (by omega)) ?_
      refine z_bipush hX dX4_isWord_79 81 rfl zkb_8 ?_
      refine z_icmp_geN hX (Z - F) 8 (by omega) (by omega) dX4_isWord_81 84 rfl (tgt := 94) (by decide) (fun c10 => ?_) (fun c10 => ?_)
      ·
        refine z_iconst hX dX4_isWord_94 95 rfl zki_0 ?_
        exact z_eqL rfl (by first | (simp only [if_pos c8, if_pos c10] <;> rfl; done) | grind) J9
      ·
        refine z_lload_n hX dX4_isWord_84 85 rfl (i := 3) rfl 2 rfl ?_
        refine z_lload_n hX dX4_isWord_85 86 rfl (i := 1) rfl 1 rfl ?_
        refine z_lcmp hX dX4_isWord_86 87 rfl ?_
        refine z_lcmp_ne hX dX4_isWord_87 90 rfl (tgt := 94) (by decide) (fun c11 => ?_) (fun c11 => ?_)
        ·
          refine z_iconst hX dX4_isWord_94 95 rfl zki_0 ?_
          exact z_eqL rfl (by first | (simp only [if_pos c8, if_neg (Nat.not_le.mpr c10), if_neg c11] <;> rfl; done) | grind) J9
        ·
          refine z_iconst hX dX4_isWord_90 91 rfl zki_1 ?_
          refine z_goto hX dX4_isWord_91 (tgt := 95) (by decide) ?_
          exact z_eqL rfl (by first | (simp only [if_pos c8, if_neg (Nat.not_le.mpr c10), if_pos c11] <;> rfl; done) | grind) J9
  have Lp7 : ∀ k j1 : Nat, j1 + k = (x4_isWord_l8 (mt_token M) F Z) → ZW g X 0 0 G 8 [(0, .ref o), (1, .long x), (3, .long (x4_isWord_l8f (mt_tape M) F 0 j1)), (5, .int (nI (F + j1)))] [] := by
    intro k
    induction k with
    | zero =>
      intro j1 hj1
      rw [show j1 = (x4_isWord_l8 (mt_token M) F Z) from by omega]
      have hp := f5
      refine z_aload_n hX dX4_isWord_8 9 rfl (i := 0) rfl 0 rfl ?_
      refine m_get_token hX hM fX4_105 dX4_isWord_9 12 rfl (w := mt_token M) rfl ?_
      refine z_iconst hX dX4_isWord_12 13 rfl zki_1 ?_
      refine z_icmp_ne hX dX4_isWord_13 16 rfl (tgt := 62) (by decide) (fun c12 => ?_) (fun c12 => ?_)
      ·
        exact E6
      ·
        refine z_iload hX dX4_isWord_16 18 rfl 3 rfl ?_
        refine z_aload_n hX dX4_isWord_18 19 rfl (i := 0) rfl 0 rfl ?_
        refine m_get_at hX hM fX4_85 dX4_isWord_19 22 rfl (w := nI Z) hfZ ?_
        refine z_icmp_geN hX (F + (x4_isWord_l8 (mt_token M) F Z)) Z (by omega) (by omega) dX4_isWord_22 25 rfl (tgt := 62) (by decide) (fun c13 => ?_) (fun c13 => ?_)
        ·
          exact E6
        ·
          refine z_iload hX dX4_isWord_25 27 rfl 3 rfl ?_
          refine z_aload_n hX dX4_isWord_27 28 rfl (i := 0) rfl 0 rfl ?_
          refine m_get_from hX hM fX4_88 dX4_isWord_28 31 rfl (w := nI F) hfF ?_
          refine z_bipush hX dX4_isWord_31 33 rfl zkb_8 ?_
          refine z_iadd hX dX4_isWord_33 34 rfl (w := nI (F + 8)) (nI_add F 8) ?_
          refine z_icmp_geN hX (F + (x4_isWord_l8 (mt_token M) F Z)) (F + 8) (by omega) (by omega) dX4_isWord_34 37 rfl (tgt := 62) (by decide) (fun c14 => ?_) (fun c14 => ?_)
          ·
            exact E6
          ·
            exact absurd hp (by simp only [if_pos c12, if_neg (Nat.not_le.mpr c13), if_neg (Nat.not_le.mpr c14)]; simp)
    | succ k ih =>
      intro j1 hj1
      have hp := f4 j1 (by omega)
      refine z_aload_n hX dX4_isWord_8 9 rfl (i := 0) rfl 0 rfl ?_
      refine m_get_token hX hM fX4_105 dX4_isWord_9 12 rfl (w := mt_token M) rfl ?_
      refine z_iconst hX dX4_isWord_12 13 rfl zki_1 ?_
      refine z_icmp_ne hX dX4_isWord_13 16 rfl (tgt := 62) (by decide) (fun c15 => ?_) (fun c15 => ?_)
      ·
        exact absurd hp (by simp only [if_neg c15]; simp)
      ·
        refine z_iload hX dX4_isWord_16 18 rfl 3 rfl ?_
        refine z_aload_n hX dX4_isWord_18 19 rfl (i := 0) rfl 0 rfl ?_
        refine m_get_at hX hM fX4_85 dX4_isWord_19 22 rfl (w := nI Z) hfZ ?_
        refine z_icmp_geN hX (F + j1) Z (by omega) (by omega) dX4_isWord_22 25 rfl (tgt := 62) (by decide) (fun c16 => ?_) (fun c16 => ?_)
        ·
          exact absurd hp (by simp only [if_pos c15, if_pos c16]; simp)
        ·
          refine z_iload hX dX4_isWord_25 27 rfl 3 rfl ?_
          refine z_aload_n hX dX4_isWord_27 28 rfl (i := 0) rfl 0 rfl ?_
          refine m_get_from hX hM fX4_88 dX4_isWord_28 31 rfl (w := nI F) hfF ?_
          refine z_bipush hX dX4_isWord_31 33 rfl zkb_8 ?_
          refine z_iadd hX dX4_isWord_33 34 rfl (w := nI (F + 8)) (nI_add F 8) ?_
          refine z_icmp_geN hX (F + j1) (F + 8) (by omega) (by omega) dX4_isWord_34 37 rfl (tgt := 62) (by decide) (fun c17 => ?_) (fun c17 => ?_)
          ·
            exact absurd hp (by simp only [if_pos c15, if_neg (Nat.not_le.mpr c16), if_pos c17]; simp)
          ·
            refine z_ldc2 hX q1746 dX4_isWord_37 40 rfl ?_
            refine z_lload_n hX dX4_isWord_40 41 rfl (i := 3) rfl 2 rfl ?_
            refine z_lmul hX dX4_isWord_41 42 rfl ?_
            refine z_aload_n hX dX4_isWord_42 43 rfl (i := 0) rfl 0 rfl ?_
            refine z_getf hX fX4_19 hM.1.o dX4_isWord_43 46 rfl (x := .ref (o + 4)) rfl ?_
            refine z_iload hX dX4_isWord_46 48 rfl 3 rfl ?_
            refine m_ald_tape hX hM (F + j1) (by omega) dX4_isWord_48 49 rfl (w := mt_tape M (F + j1)) rfl ?_
            refine z_i2l hX dX4_isWord_49 50 rfl (w := (mt_tape M (F + j1)).toInt64) (by first | rfl | decide) ?_
            refine z_ladd hX dX4_isWord_50 51 rfl ?_
            refine z_ldc2 hX q1747 dX4_isWord_51 54 rfl ?_
            refine z_lsub hX dX4_isWord_54 55 rfl ?_
            refine z_lstore_n hX dX4_isWord_55 56 rfl (i := 3) rfl (Nat.le_of_ble_eq_true rfl) rfl (L' := [(0, .ref o), (1, .long x), (3, .long (((27 * (x4_isWord_l8f (mt_tape M) F 0 j1)) + ((mt_tape M (F + j1)).toInt64)) - 96)), (5, .int (nI (F + j1)))]) rfl ?_
            refine z_iinc hX dX4_isWord_56 59 rfl 3 rfl (w := nI (F + j1 + 1)) (nI_1 (F + j1)) (Nat.le_of_ble_eq_true rfl) rfl (L' := [(0, .ref o), (1, .long x), (3, .long (((27 * (x4_isWord_l8f (mt_tape M) F 0 j1)) + ((mt_tape M (F + j1)).toInt64)) - 96)), (5, .int (nI (F + j1 + 1)))]) rfl ?_
            refine z_goto hX dX4_isWord_59 (tgt := 8) (by decide) ?_
            exact ih (j1 + 1) (by omega)
  refine z_eqL (L' := [(0, .ref o), (1, .long x), (3, .long (x4_isWord_l8f (mt_tape M) F 0 0)), (5, .int (nI F))]) (st' := []) (by simp only [x4_isWord_l8f_0, Nat.add_zero]) rfl ?_
  exact Lp7 (x4_isWord_l8 (mt_token M) F Z) 0 (by omega)
def x4_spellsNumber_spelt (m_spelt : Nat → Int32) (v : Nat) (T : Nat) : Nat → Int32 := if v / 10 < 1 then x4_spellsByte_spelt (x4_spellsByte_spelt (m_spelt) 32 T) (nI (48 + ((v / 1) % 10))) (T + 1) else if v / 10 < 10 then x4_spellsByte_spelt (x4_spellsByte_spelt (x4_spellsByte_spelt (m_spelt) 32 T) (nI (48 + ((v / 10) % 10))) (T + 1)) (nI (48 + ((v / 1) % 10))) ((T + 1) + 1) else if v / 10 < 100 then x4_spellsByte_spelt (x4_spellsByte_spelt (x4_spellsByte_spelt (x4_spellsByte_spelt (m_spelt) 32 T) (nI (48 + ((v / 100) % 10))) (T + 1)) (nI (48 + ((v / 10) % 10))) ((T + 1) + 1)) (nI (48 + ((v / 1) % 10))) (((T + 1) + 1) + 1) else x4_spellsByte_spelt (x4_spellsByte_spelt (x4_spellsByte_spelt (x4_spellsByte_spelt (x4_spellsByte_spelt (m_spelt) 32 T) (nI (48 + ((v / 1000) % 10))) (T + 1)) (nI (48 + ((v / 100) % 10))) ((T + 1) + 1)) (nI (48 + ((v / 10) % 10))) (((T + 1) + 1) + 1)) (nI (48 + ((v / 1) % 10))) ((((T + 1) + 1) + 1) + 1)
def x4_spellsNumber_speltMany (v : Nat) (T : Nat) : Nat := if v / 10 < 1 then (T + 1) + 1 else if v / 10 < 10 then ((T + 1) + 1) + 1 else if v / 10 < 100 then (((T + 1) + 1) + 1) + 1 else ((((T + 1) + 1) + 1) + 1) + 1
set_option maxHeartbeats 4000000 in
theorem met_X4_spellsNumber {g : Zg} (hG : zG g) {G0 : zHG} {o : Nat} {M : MT} (hM : zMo g G0 o M) (v : Nat) (T : Nat)  (h_v : v < 10000) (h_T : T < 1195) (hfT : mt_speltMany M = nI T)  : ZM g yX4_spellsNumber cX4_spellsNumber 3 none 2 0 0 [.ref o, .int (nI v)] G0 (fun r G' => r = none ∧ zMs g G0 G' o (ms_speltMany (ms_spelt M (x4_spellsNumber_spelt (mt_spelt M) v T)) (nI (x4_spellsNumber_speltMany v T)))) := by
  unfold x4_spellsNumber_spelt x4_spellsNumber_speltMany
  refine ZM_mk hG (by decide) (Nat.le_of_ble_eq_true rfl) ?_
  intro X hX hname hQ
  obtain ⟨G, hGe⟩ : ∃ z, z = G0 := ⟨_, rfl⟩
  have hM : zMs g G0 G o M := by rw [hGe]; exact zMs.rf hM
  show ZW g X 0 0 G0 0 [(0, .ref o), (1, .int (nI v))] []
  rw [← hGe]
  have hM : zMs g G0 G o (ms_speltMany M (nI T)) := by simpa only [me2_speltMany, hfT] using hM
  refine z_aload_n hX dX4_spellsNumber_0 1 rfl (i := 0) rfl 0 rfl ?_
  refine z_bipush hX dX4_spellsNumber_1 3 rfl zkb_32 ?_
  refine z_callVv hX cwX4_345 (met_X4_spellsByte hG hM.1 32 T (by omega) (mgs_speltMany _ _)) hM.1.o rfl rfl dX4_spellsNumber_3 6 rfl rfl rfl (Nat.le_of_ble_eq_true rfl) (by decide) ⟨Nat.zero_le _, Nat.zero_le _⟩ (fun G hhM => ?_)
  have hM := zMs.tr hM hhM
  have hM : zMs g G0 G o (ms_speltMany (ms_spelt M (x4_spellsByte_spelt (mt_spelt M) 32 T)) (nI (T + 1))) := by simpa only [mg_spelt_speltMany, mc_spelt_speltMany, mm_spelt, mm_speltMany] using hM
  refine z_iconst hX dX4_spellsNumber_6 7 rfl zki_1 ?_
  refine z_istore_n hX dX4_spellsNumber_7 8 rfl (i := 2) rfl (Nat.le_of_ble_eq_true rfl) rfl (L' := [(0, .ref o), (1, .int (nI v)), (2, .int 1)]) rfl ?_
  refine z_iload_n hX dX4_spellsNumber_8 9 rfl (i := 2) rfl 2 rfl ?_
  refine z_iload_n hX dX4_spellsNumber_9 10 rfl (i := 1) rfl 1 rfl ?_
  refine z_bipush hX dX4_spellsNumber_10 12 rfl zkb_10 ?_
  refine z_idiv hX dX4_spellsNumber_12 13 rfl (by decide) (w := nI (v / 10)) (pk_div (by omega) (by decide) (by decide)) ?_
  refine z_icmp_gtN hX 1 (v / 10) (by omega) (by omega) dX4_spellsNumber_13 16 rfl (tgt := 24) (by decide) (fun c1 => ?_) (fun c1 => ?_)
  ·
    refine z_iload_n hX dX4_spellsNumber_24 25 rfl (i := 2) rfl 2 rfl ?_
    refine z_if_le hX dX4_spellsNumber_25 28 rfl (tgt := 49) (by decide) (fun c2 => ?_) (fun c2 => ?_)
    · exact absurd c2 (by decide)
    refine z_aload_n hX dX4_spellsNumber_28 29 rfl (i := 0) rfl 0 rfl ?_
    refine z_bipush hX dX4_spellsNumber_29 31 rfl zkb_48 ?_
    refine z_iload_n hX dX4_spellsNumber_31 32 rfl (i := 1) rfl 1 rfl ?_
    refine z_iload_n hX dX4_spellsNumber_32 33 rfl (i := 2) rfl 2 rfl ?_
    refine z_idiv hX dX4_spellsNumber_33 34 rfl (by decide) (w := nI (v / 1)) (pk_div (by omega) (by decide) (by decide)) ?_
    refine z_bipush hX dX4_spellsNumber_34 36 rfl zkb_10 ?_
    refine z_irem hX dX4_spellsNumber_36 37 rfl (by decide) (w := nI ((v / 1) % 10)) (pk_rem (by omega) (by decide) (by decide)) ?_
    refine z_iadd hX dX4_spellsNumber_37 38 rfl (w := nI (48 + ((v / 1) % 10))) (nI_add 48 ((v / 1) % 10)) ?_
    refine z_callVv hX cwX4_345 (met_X4_spellsByte hG hM.1 (nI (48 + ((v / 1) % 10))) (T + 1) (by omega) (mgs_speltMany _ _)) hM.1.o rfl rfl dX4_spellsNumber_38 41 rfl rfl rfl (Nat.le_of_ble_eq_true rfl) (by decide) ⟨Nat.zero_le _, Nat.zero_le _⟩ (fun G hhM => ?_)
    have hM := zMs.tr hM hhM
    have hM : zMs g G0 G o (ms_speltMany (ms_spelt M (x4_spellsByte_spelt (x4_spellsByte_spelt (mt_spelt M) 32 T) (nI (48 + ((v / 1) % 10))) (T + 1))) (nI ((T + 1) + 1))) := by simpa only [mg_spelt_speltMany, mgs_spelt, mc_spelt_speltMany, mm_spelt, mm_speltMany] using hM
    refine z_iload_n hX dX4_spellsNumber_41 42 rfl (i := 2) rfl 2 rfl ?_
    refine z_bipush hX dX4_spellsNumber_42 44 rfl zkb_10 ?_
    refine z_idiv hX dX4_spellsNumber_44 45 rfl (by decide) (w := 0) (by decide) ?_
    refine z_istore_n hX dX4_spellsNumber_45 46 rfl (i := 2) rfl (Nat.le_of_ble_eq_true rfl) rfl (L' := [(0, .ref o), (1, .int (nI v)), (2, .int 0)]) rfl ?_
    refine z_goto hX dX4_spellsNumber_46 (tgt := 24) (by decide) ?_
    refine z_iload_n hX dX4_spellsNumber_24 25 rfl (i := 2) rfl 2 rfl ?_
    refine z_if_le hX dX4_spellsNumber_25 28 rfl (tgt := 49) (by decide) (fun c3 => ?_) (fun c3 => ?_)
    rotate_left 1
    · exact absurd (by decide) c3
    exact z_vret hX hQ (Nat.zero_le _) (Nat.zero_le _) rfl dX4_spellsNumber_49 ⟨rfl, (by first | (simpa only [if_pos c1, me_spelt, me_speltMany] using hM) | (simpa only [if_pos c1, me2_spelt, me2_speltMany, mg_speltMany_spelt] using hM))⟩
  ·
    refine z_iload_n hX dX4_spellsNumber_16 17 rfl (i := 2) rfl 2 rfl ?_
    refine z_bipush hX dX4_spellsNumber_17 19 rfl zkb_10 ?_
    refine z_imul hX dX4_spellsNumber_19 20 rfl (w := 10) (by decide) ?_
    refine z_istore_n hX dX4_spellsNumber_20 21 rfl (i := 2) rfl (Nat.le_of_ble_eq_true rfl) rfl (L' := [(0, .ref o), (1, .int (nI v)), (2, .int 10)]) rfl ?_
    refine z_goto hX dX4_spellsNumber_21 (tgt := 8) (by decide) ?_
    refine z_iload_n hX dX4_spellsNumber_8 9 rfl (i := 2) rfl 2 rfl ?_
    refine z_iload_n hX dX4_spellsNumber_9 10 rfl (i := 1) rfl 1 rfl ?_
    refine z_bipush hX dX4_spellsNumber_10 12 rfl zkb_10 ?_
    refine z_idiv hX dX4_spellsNumber_12 13 rfl (by decide) (w := nI (v / 10)) (pk_div (by omega) (by decide) (by decide)) ?_
    refine z_icmp_gtN hX 10 (v / 10) (by omega) (by omega) dX4_spellsNumber_13 16 rfl (tgt := 24) (by decide) (fun c4 => ?_) (fun c4 => ?_)
    ·
      refine z_iload_n hX dX4_spellsNumber_24 25 rfl (i := 2) rfl 2 rfl ?_
      refine z_if_le hX dX4_spellsNumber_25 28 rfl (tgt := 49) (by decide) (fun c5 => ?_) (fun c5 => ?_)
      · exact absurd c5 (by decide)
      refine z_aload_n hX dX4_spellsNumber_28 29 rfl (i := 0) rfl 0 rfl ?_
      refine z_bipush hX dX4_spellsNumber_29 31 rfl zkb_48 ?_
      refine z_iload_n hX dX4_spellsNumber_31 32 rfl (i := 1) rfl 1 rfl ?_
      refine z_iload_n hX dX4_spellsNumber_32 33 rfl (i := 2) rfl 2 rfl ?_
      refine z_idiv hX dX4_spellsNumber_33 34 rfl (by decide) (w := nI (v / 10)) (pk_div (by omega) (by decide) (by decide)) ?_
      refine z_bipush hX dX4_spellsNumber_34 36 rfl zkb_10 ?_
      refine z_irem hX dX4_spellsNumber_36 37 rfl (by decide) (w := nI ((v / 10) % 10)) (pk_rem (by omega) (by decide) (by decide)) ?_
      refine z_iadd hX dX4_spellsNumber_37 38 rfl (w := nI (48 + ((v / 10) % 10))) (nI_add 48 ((v / 10) % 10)) ?_
      refine z_callVv hX cwX4_345 (met_X4_spellsByte hG hM.1 (nI (48 + ((v / 10) % 10))) (T + 1) (by omega) (mgs_speltMany _ _)) hM.1.o rfl rfl dX4_spellsNumber_38 41 rfl rfl rfl (Nat.le_of_ble_eq_true rfl) (by decide) ⟨Nat.zero_le _, Nat.zero_le _⟩ (fun G hhM => ?_)
      have hM := zMs.tr hM hhM
      have hM : zMs g G0 G o (ms_speltMany (ms_spelt M (x4_spellsByte_spelt (x4_spellsByte_spelt (mt_spelt M) 32 T) (nI (48 + ((v / 10) % 10))) (T + 1))) (nI ((T + 1) + 1))) := by simpa only [mg_spelt_speltMany, mgs_spelt, mc_spelt_speltMany, mm_spelt, mm_speltMany] using hM
      refine z_iload_n hX dX4_spellsNumber_41 42 rfl (i := 2) rfl 2 rfl ?_
      refine z_bipush hX dX4_spellsNumber_42 44 rfl zkb_10 ?_
      refine z_idiv hX dX4_spellsNumber_44 45 rfl (by decide) (w := 1) (by decide) ?_
      refine z_istore_n hX dX4_spellsNumber_45 46 rfl (i := 2) rfl (Nat.le_of_ble_eq_true rfl) rfl (L' := [(0, .ref o), (1, .int (nI v)), (2, .int 1)]) rfl ?_
      refine z_goto hX dX4_spellsNumber_46 (tgt := 24) (by decide) ?_
      refine z_iload_n hX dX4_spellsNumber_24 25 rfl (i := 2) rfl 2 rfl ?_
      refine z_if_le hX dX4_spellsNumber_25 28 rfl (tgt := 49) (by decide) (fun c6 => ?_) (fun c6 => ?_)
      · exact absurd c6 (by decide)
      refine z_aload_n hX dX4_spellsNumber_28 29 rfl (i := 0) rfl 0 rfl ?_
      refine z_bipush hX dX4_spellsNumber_29 31 rfl zkb_48 ?_
      refine z_iload_n hX dX4_spellsNumber_31 32 rfl (i := 1) rfl 1 rfl ?_
      refine z_iload_n hX dX4_spellsNumber_32 33 rfl (i := 2) rfl 2 rfl ?_
      refine z_idiv hX dX4_spellsNumber_33 34 rfl (by decide) (w := nI (v / 1)) (pk_div (by omega) (by decide) (by decide)) ?_
      refine z_bipush hX dX4_spellsNumber_34 36 rfl zkb_10 ?_
      refine z_irem hX dX4_spellsNumber_36 37 rfl (by decide) (w := nI ((v / 1) % 10)) (pk_rem (by omega) (by decide) (by decide)) ?_
      refine z_iadd hX dX4_spellsNumber_37 38 rfl (w := nI (48 + ((v / 1) % 10))) (nI_add 48 ((v / 1) % 10)) ?_
      refine z_callVv hX cwX4_345 (met_X4_spellsByte hG hM.1 (nI (48 + ((v / 1) % 10))) ((T + 1) + 1) (by omega) (mgs_speltMany _ _)) hM.1.o rfl rfl dX4_spellsNumber_38 41 rfl rfl rfl (Nat.le_of_ble_eq_true rfl) (by decide) ⟨Nat.zero_le _, Nat.zero_le _⟩ (fun G hhM => ?_)
      have hM := zMs.tr hM hhM
      have hM : zMs g G0 G o (ms_speltMany (ms_spelt M (x4_spellsByte_spelt (x4_spellsByte_spelt (x4_spellsByte_spelt (mt_spelt M) 32 T) (nI (48 + ((v / 10) % 10))) (T + 1)) (nI (48 + ((v / 1) % 10))) ((T + 1) + 1))) (nI (((T + 1) + 1) + 1))) := by simpa only [mg_spelt_speltMany, mgs_spelt, mc_spelt_speltMany, mm_spelt, mm_speltMany] using hM
      refine z_iload_n hX dX4_spellsNumber_41 42 rfl (i := 2) rfl 2 rfl ?_
      refine z_bipush hX dX4_spellsNumber_42 44 rfl zkb_10 ?_
      refine z_idiv hX dX4_spellsNumber_44 45 rfl (by decide) (w := 0) (by decide) ?_
      refine z_istore_n hX dX4_spellsNumber_45 46 rfl (i := 2) rfl (Nat.le_of_ble_eq_true rfl) rfl (L' := [(0, .ref o), (1, .int (nI v)), (2, .int 0)]) rfl ?_
      refine z_goto hX dX4_spellsNumber_46 (tgt := 24) (by decide) ?_
      refine z_iload_n hX dX4_spellsNumber_24 25 rfl (i := 2) rfl 2 rfl ?_
      refine z_if_le hX dX4_spellsNumber_25 28 rfl (tgt := 49) (by decide) (fun c7 => ?_) (fun c7 => ?_)
      rotate_left 1
      · exact absurd (by decide) c7
      exact z_vret hX hQ (Nat.zero_le _) (Nat.zero_le _) rfl dX4_spellsNumber_49 ⟨rfl, (by first | (simpa only [if_neg c1, if_pos c4, me_spelt, me_speltMany] using hM) | (simpa only [if_neg c1, if_pos c4, me2_spelt, me2_speltMany, mg_speltMany_spelt] using hM))⟩
    ·
      refine z_iload_n hX dX4_spellsNumber_16 17 rfl (i := 2) rfl 2 rfl ?_
      refine z_bipush hX dX4_spellsNumber_17 19 rfl zkb_10 ?_
      refine z_imul hX dX4_spellsNumber_19 20 rfl (w := 100) (by decide) ?_
      refine z_istore_n hX dX4_spellsNumber_20 21 rfl (i := 2) rfl (Nat.le_of_ble_eq_true rfl) rfl (L' := [(0, .ref o), (1, .int (nI v)), (2, .int 100)]) rfl ?_
      refine z_goto hX dX4_spellsNumber_21 (tgt := 8) (by decide) ?_
      refine z_iload_n hX dX4_spellsNumber_8 9 rfl (i := 2) rfl 2 rfl ?_
      refine z_iload_n hX dX4_spellsNumber_9 10 rfl (i := 1) rfl 1 rfl ?_
      refine z_bipush hX dX4_spellsNumber_10 12 rfl zkb_10 ?_
      refine z_idiv hX dX4_spellsNumber_12 13 rfl (by decide) (w := nI (v / 10)) (pk_div (by omega) (by decide) (by decide)) ?_
      refine z_icmp_gtN hX 100 (v / 10) (by omega) (by omega) dX4_spellsNumber_13 16 rfl (tgt := 24) (by decide) (fun c8 => ?_) (fun c8 => ?_)
      ·
        refine z_iload_n hX dX4_spellsNumber_24 25 rfl (i := 2) rfl 2 rfl ?_
        refine z_if_le hX dX4_spellsNumber_25 28 rfl (tgt := 49) (by decide) (fun c9 => ?_) (fun c9 => ?_)
        · exact absurd c9 (by decide)
        refine z_aload_n hX dX4_spellsNumber_28 29 rfl (i := 0) rfl 0 rfl ?_
        refine z_bipush hX dX4_spellsNumber_29 31 rfl zkb_48 ?_
        refine z_iload_n hX dX4_spellsNumber_31 32 rfl (i := 1) rfl 1 rfl ?_
        refine z_iload_n hX dX4_spellsNumber_32 33 rfl (i := 2) rfl 2 rfl ?_
        refine z_idiv hX dX4_spellsNumber_33 34 rfl (by decide) (w := nI (v / 100)) (pk_div (by omega) (by decide) (by decide)) ?_
        refine z_bipush hX dX4_spellsNumber_34 36 rfl zkb_10 ?_
        refine z_irem hX dX4_spellsNumber_36 37 rfl (by decide) (w := nI ((v / 100) % 10)) (pk_rem (by omega) (by decide) (by decide)) ?_
        refine z_iadd hX dX4_spellsNumber_37 38 rfl (w := nI (48 + ((v / 100) % 10))) (nI_add 48 ((v / 100) % 10)) ?_
        refine z_callVv hX cwX4_345 (met_X4_spellsByte hG hM.1 (nI (48 + ((v / 100) % 10))) (T + 1) (by omega) (mgs_speltMany _ _)) hM.1.o rfl rfl dX4_spellsNumber_38 41 rfl rfl rfl (Nat.le_of_ble_eq_true rfl) (by decide) ⟨Nat.zero_le _, Nat.zero_le _⟩ (fun G hhM => ?_)
        have hM := zMs.tr hM hhM
        have hM : zMs g G0 G o (ms_speltMany (ms_spelt M (x4_spellsByte_spelt (x4_spellsByte_spelt (mt_spelt M) 32 T) (nI (48 + ((v / 100) % 10))) (T + 1))) (nI ((T + 1) + 1))) := by simpa only [mg_spelt_speltMany, mgs_spelt, mc_spelt_speltMany, mm_spelt, mm_speltMany] using hM
        refine z_iload_n hX dX4_spellsNumber_41 42 rfl (i := 2) rfl 2 rfl ?_
        refine z_bipush hX dX4_spellsNumber_42 44 rfl zkb_10 ?_
        refine z_idiv hX dX4_spellsNumber_44 45 rfl (by decide) (w := 10) (by decide) ?_
        refine z_istore_n hX dX4_spellsNumber_45 46 rfl (i := 2) rfl (Nat.le_of_ble_eq_true rfl) rfl (L' := [(0, .ref o), (1, .int (nI v)), (2, .int 10)]) rfl ?_
        refine z_goto hX dX4_spellsNumber_46 (tgt := 24) (by decide) ?_
        refine z_iload_n hX dX4_spellsNumber_24 25 rfl (i := 2) rfl 2 rfl ?_
        refine z_if_le hX dX4_spellsNumber_25 28 rfl (tgt := 49) (by decide) (fun c10 => ?_) (fun c10 => ?_)
        · exact absurd c10 (by decide)
        refine z_aload_n hX dX4_spellsNumber_28 29 rfl (i := 0) rfl 0 rfl ?_
        refine z_bipush hX dX4_spellsNumber_29 31 rfl zkb_48 ?_
        refine z_iload_n hX dX4_spellsNumber_31 32 rfl (i := 1) rfl 1 rfl ?_
        refine z_iload_n hX dX4_spellsNumber_32 33 rfl (i := 2) rfl 2 rfl ?_
        refine z_idiv hX dX4_spellsNumber_33 34 rfl (by decide) (w := nI (v / 10)) (pk_div (by omega) (by decide) (by decide)) ?_
        refine z_bipush hX dX4_spellsNumber_34 36 rfl zkb_10 ?_
        refine z_irem hX dX4_spellsNumber_36 37 rfl (by decide) (w := nI ((v / 10) % 10)) (pk_rem (by omega) (by decide) (by decide)) ?_
        refine z_iadd hX dX4_spellsNumber_37 38 rfl (w := nI (48 + ((v / 10) % 10))) (nI_add 48 ((v / 10) % 10)) ?_
        refine z_callVv hX cwX4_345 (met_X4_spellsByte hG hM.1 (nI (48 + ((v / 10) % 10))) ((T + 1) + 1) (by omega) (mgs_speltMany _ _)) hM.1.o rfl rfl dX4_spellsNumber_38 41 rfl rfl rfl (Nat.le_of_ble_eq_true rfl) (by decide) ⟨Nat.zero_le _, Nat.zero_le _⟩ (fun G hhM => ?_)
        have hM := zMs.tr hM hhM
        have hM : zMs g G0 G o (ms_speltMany (ms_spelt M (x4_spellsByte_spelt (x4_spellsByte_spelt (x4_spellsByte_spelt (mt_spelt M) 32 T) (nI (48 + ((v / 100) % 10))) (T + 1)) (nI (48 + ((v / 10) % 10))) ((T + 1) + 1))) (nI (((T + 1) + 1) + 1))) := by simpa only [mg_spelt_speltMany, mgs_spelt, mc_spelt_speltMany, mm_spelt, mm_speltMany] using hM
        refine z_iload_n hX dX4_spellsNumber_41 42 rfl (i := 2) rfl 2 rfl ?_
        refine z_bipush hX dX4_spellsNumber_42 44 rfl zkb_10 ?_
        refine z_idiv hX dX4_spellsNumber_44 45 rfl (by decide) (w := 1) (by decide) ?_
        refine z_istore_n hX dX4_spellsNumber_45 46 rfl (i := 2) rfl (Nat.le_of_ble_eq_true rfl) rfl (L' := [(0, .ref o), (1, .int (nI v)), (2, .int 1)]) rfl ?_
        refine z_goto hX dX4_spellsNumber_46 (tgt := 24) (by decide) ?_
        refine z_iload_n hX dX4_spellsNumber_24 25 rfl (i := 2) rfl 2 rfl ?_
        refine z_if_le hX dX4_spellsNumber_25 28 rfl (tgt := 49) (by decide) (fun c11 => ?_) (fun c11 => ?_)
        · exact absurd c11 (by decide)
        refine z_aload_n hX dX4_spellsNumber_28 29 rfl (i := 0) rfl 0 rfl ?_
        refine z_bipush hX dX4_spellsNumber_29 31 rfl zkb_48 ?_
        refine z_iload_n hX dX4_spellsNumber_31 32 rfl (i := 1) rfl 1 rfl ?_
        refine z_iload_n hX dX4_spellsNumber_32 33 rfl (i := 2) rfl 2 rfl ?_
        refine z_idiv hX dX4_spellsNumber_33 34 rfl (by decide) (w := nI (v / 1)) (pk_div (by omega) (by decide) (by decide)) ?_
        refine z_bipush hX dX4_spellsNumber_34 36 rfl zkb_10 ?_
        refine z_irem hX dX4_spellsNumber_36 37 rfl (by decide) (w := nI ((v / 1) % 10)) (pk_rem (by omega) (by decide) (by decide)) ?_
        refine z_iadd hX dX4_spellsNumber_37 38 rfl (w := nI (48 + ((v / 1) % 10))) (nI_add 48 ((v / 1) % 10)) ?_
        refine z_callVv hX cwX4_345 (met_X4_spellsByte hG hM.1 (nI (48 + ((v / 1) % 10))) (((T + 1) + 1) + 1) (by omega) (mgs_speltMany _ _)) hM.1.o rfl rfl dX4_spellsNumber_38 41 rfl rfl rfl (Nat.le_of_ble_eq_true rfl) (by decide) ⟨Nat.zero_le _, Nat.zero_le _⟩ (fun G hhM => ?_)
        have hM := zMs.tr hM hhM
        have hM : zMs g G0 G o (ms_speltMany (ms_spelt M (x4_spellsByte_spelt (x4_spellsByte_spelt (x4_spellsByte_spelt (x4_spellsByte_spelt (mt_spelt M) 32 T) (nI (48 + ((v / 100) % 10))) (T + 1)) (nI (48 + ((v / 10) % 10))) ((T + 1) + 1)) (nI (48 + ((v / 1) % 10))) (((T + 1) + 1) + 1))) (nI ((((T + 1) + 1) + 1) + 1))) := by simpa only [mg_spelt_speltMany, mgs_spelt, mc_spelt_speltMany, mm_spelt, mm_speltMany] using hM
        refine z_iload_n hX dX4_spellsNumber_41 42 rfl (i := 2) rfl 2 rfl ?_
        refine z_bipush hX dX4_spellsNumber_42 44 rfl zkb_10 ?_
        refine z_idiv hX dX4_spellsNumber_44 45 rfl (by decide) (w := 0) (by decide) ?_
        refine z_istore_n hX dX4_spellsNumber_45 46 rfl (i := 2) rfl (Nat.le_of_ble_eq_true rfl) rfl (L' := [(0, .ref o), (1, .int (nI v)), (2, .int 0)]) rfl ?_
        refine z_goto hX dX4_spellsNumber_46 (tgt := 24) (by decide) ?_
        refine z_iload_n hX dX4_spellsNumber_24 25 rfl (i := 2) rfl 2 rfl ?_
        refine z_if_le hX dX4_spellsNumber_25 28 rfl (tgt := 49) (by decide) (fun c12 => ?_) (fun c12 => ?_)
        rotate_left 1
        · exact absurd (by decide) c12
        exact z_vret hX hQ (Nat.zero_le _) (Nat.zero_le _) rfl dX4_spellsNumber_49 ⟨rfl, (by first | (simpa only [if_neg c1, if_neg c4, if_pos c8, me_spelt, me_speltMany] using hM) | (simpa only [if_neg c1, if_neg c4, if_pos c8, me2_spelt, me2_speltMany, mg_speltMany_spelt] using hM))⟩
      ·
        refine z_iload_n hX dX4_spellsNumber_16 17 rfl (i := 2) rfl 2 rfl ?_
        refine z_bipush hX dX4_spellsNumber_17 19 rfl zkb_10 ?_
        refine z_imul hX dX4_spellsNumber_19 20 rfl (w := 1000) (by decide) ?_
        refine z_istore_n hX dX4_spellsNumber_20 21 rfl (i := 2) rfl (Nat.le_of_ble_eq_true rfl) rfl (L' := [(0, .ref o), (1, .int (nI v)), (2, .int 1000)]) rfl ?_
        refine z_goto hX dX4_spellsNumber_21 (tgt := 8) (by decide) ?_
        refine z_iload_n hX dX4_spellsNumber_8 9 rfl (i := 2) rfl 2 rfl ?_
        refine z_iload_n hX dX4_spellsNumber_9 10 rfl (i := 1) rfl 1 rfl ?_
        refine z_bipush hX dX4_spellsNumber_10 12 rfl zkb_10 ?_
        refine z_idiv hX dX4_spellsNumber_12 13 rfl (by decide) (w := nI (v / 10)) (pk_div (by omega) (by decide) (by decide)) ?_
        refine z_icmp_gtN hX 1000 (v / 10) (by omega) (by omega) dX4_spellsNumber_13 16 rfl (tgt := 24) (by decide) (fun c13 => ?_) (fun c13 => ?_)
        rotate_left 1
        · omega
        refine z_iload_n hX dX4_spellsNumber_24 25 rfl (i := 2) rfl 2 rfl ?_
        refine z_if_le hX dX4_spellsNumber_25 28 rfl (tgt := 49) (by decide) (fun c14 => ?_) (fun c14 => ?_)
        · exact absurd c14 (by decide)
        refine z_aload_n hX dX4_spellsNumber_28 29 rfl (i := 0) rfl 0 rfl ?_
        refine z_bipush hX dX4_spellsNumber_29 31 rfl zkb_48 ?_
        refine z_iload_n hX dX4_spellsNumber_31 32 rfl (i := 1) rfl 1 rfl ?_
        refine z_iload_n hX dX4_spellsNumber_32 33 rfl (i := 2) rfl 2 rfl ?_
        refine z_idiv hX dX4_spellsNumber_33 34 rfl (by decide) (w := nI (v / 1000)) (pk_div (by omega) (by decide) (by decide)) ?_
        refine z_bipush hX dX4_spellsNumber_34 36 rfl zkb_10 ?_
        refine z_irem hX dX4_spellsNumber_36 37 rfl (by decide) (w := nI ((v / 1000) % 10)) (pk_rem (by omega) (by decide) (by decide)) ?_
        refine z_iadd hX dX4_spellsNumber_37 38 rfl (w := nI (48 + ((v / 1000) % 10))) (nI_add 48 ((v / 1000) % 10)) ?_
        refine z_callVv hX cwX4_345 (met_X4_spellsByte hG hM.1 (nI (48 + ((v / 1000) % 10))) (T + 1) (by omega) (mgs_speltMany _ _)) hM.1.o rfl rfl dX4_spellsNumber_38 41 rfl rfl rfl (Nat.le_of_ble_eq_true rfl) (by decide) ⟨Nat.zero_le _, Nat.zero_le _⟩ (fun G hhM => ?_)
        have hM := zMs.tr hM hhM
        have hM : zMs g G0 G o (ms_speltMany (ms_spelt M (x4_spellsByte_spelt (x4_spellsByte_spelt (mt_spelt M) 32 T) (nI (48 + ((v / 1000) % 10))) (T + 1))) (nI ((T + 1) + 1))) := by simpa only [mg_spelt_speltMany, mgs_spelt, mc_spelt_speltMany, mm_spelt, mm_speltMany] using hM
        refine z_iload_n hX dX4_spellsNumber_41 42 rfl (i := 2) rfl 2 rfl ?_
        refine z_bipush hX dX4_spellsNumber_42 44 rfl zkb_10 ?_
        refine z_idiv hX dX4_spellsNumber_44 45 rfl (by decide) (w := 100) (by decide) ?_
        refine z_istore_n hX dX4_spellsNumber_45 46 rfl (i := 2) rfl (Nat.le_of_ble_eq_true rfl) rfl (L' := [(0, .ref o), (1, .int (nI v)), (2, .int 100)]) rfl ?_
        refine z_goto hX dX4_spellsNumber_46 (tgt := 24) (by decide) ?_
        refine z_iload_n hX dX4_spellsNumber_24 25 rfl (i := 2) rfl 2 rfl ?_
        refine z_if_le hX dX4_spellsNumber_25 28 rfl (tgt := 49) (by decide) (fun c15 => ?_) (fun c15 => ?_)
        · exact absurd c15 (by decide)
        refine z_aload_n hX dX4_spellsNumber_28 29 rfl (i := 0) rfl 0 rfl ?_
        refine z_bipush hX dX4_spellsNumber_29 31 rfl zkb_48 ?_
        refine z_iload_n hX dX4_spellsNumber_31 32 rfl (i := 1) rfl 1 rfl ?_
        refine z_iload_n hX dX4_spellsNumber_32 33 rfl (i := 2) rfl 2 rfl ?_
        refine z_idiv hX dX4_spellsNumber_33 34 rfl (by decide) (w := nI (v / 100)) (pk_div (by omega) (by decide) (by decide)) ?_
        refine z_bipush hX dX4_spellsNumber_34 36 rfl zkb_10 ?_
        refine z_irem hX dX4_spellsNumber_36 37 rfl (by decide) (w := nI ((v / 100) % 10)) (pk_rem (by omega) (by decide) (by decide)) ?_
        refine z_iadd hX dX4_spellsNumber_37 38 rfl (w := nI (48 + ((v / 100) % 10))) (nI_add 48 ((v / 100) % 10)) ?_
        refine z_callVv hX cwX4_345 (met_X4_spellsByte hG hM.1 (nI (48 + ((v / 100) % 10))) ((T + 1) + 1) (by omega) (mgs_speltMany _ _)) hM.1.o rfl rfl dX4_spellsNumber_38 41 rfl rfl rfl (Nat.le_of_ble_eq_true rfl) (by decide) ⟨Nat.zero_le _, Nat.zero_le _⟩ (fun G hhM => ?_)
        have hM := zMs.tr hM hhM
        have hM : zMs g G0 G o (ms_speltMany (ms_spelt M (x4_spellsByte_spelt (x4_spellsByte_spelt (x4_spellsByte_spelt (mt_spelt M) 32 T) (nI (48 + ((v / 1000) % 10))) (T + 1)) (nI (48 + ((v / 100) % 10))) ((T + 1) + 1))) (nI (((T + 1) + 1) + 1))) := by simpa only [mg_spelt_speltMany, mgs_spelt, mc_spelt_speltMany, mm_spelt, mm_speltMany] using hM
        refine z_iload_n hX dX4_spellsNumber_41 42 rfl (i := 2) rfl 2 rfl ?_
        refine z_bipush hX dX4_spellsNumber_42 44 rfl zkb_10 ?_
        refine z_idiv hX dX4_spellsNumber_44 45 rfl (by decide) (w := 10) (by decide) ?_
        refine z_istore_n hX dX4_spellsNumber_45 46 rfl (i := 2) rfl (Nat.le_of_ble_eq_true rfl) rfl (L' := [(0, .ref o), (1, .int (nI v)), (2, .int 10)]) rfl ?_
        refine z_goto hX dX4_spellsNumber_46 (tgt := 24) (by decide) ?_
        refine z_iload_n hX dX4_spellsNumber_24 25 rfl (i := 2) rfl 2 rfl ?_
        refine z_if_le hX dX4_spellsNumber_25 28 rfl (tgt := 49) (by decide) (fun c16 => ?_) (fun c16 => ?_)
        · exact absurd c16 (by decide)
        refine z_aload_n hX dX4_spellsNumber_28 29 rfl (i := 0) rfl 0 rfl ?_
        refine z_bipush hX dX4_spellsNumber_29 31 rfl zkb_48 ?_
        refine z_iload_n hX dX4_spellsNumber_31 32 rfl (i := 1) rfl 1 rfl ?_
        refine z_iload_n hX dX4_spellsNumber_32 33 rfl (i := 2) rfl 2 rfl ?_
        refine z_idiv hX dX4_spellsNumber_33 34 rfl (by decide) (w := nI (v / 10)) (pk_div (by omega) (by decide) (by decide)) ?_
        refine z_bipush hX dX4_spellsNumber_34 36 rfl zkb_10 ?_
        refine z_irem hX dX4_spellsNumber_36 37 rfl (by decide) (w := nI ((v / 10) % 10)) (pk_rem (by omega) (by decide) (by decide)) ?_
        refine z_iadd hX dX4_spellsNumber_37 38 rfl (w := nI (48 + ((v / 10) % 10))) (nI_add 48 ((v / 10) % 10)) ?_
        refine z_callVv hX cwX4_345 (met_X4_spellsByte hG hM.1 (nI (48 + ((v / 10) % 10))) (((T + 1) + 1) + 1) (by omega) (mgs_speltMany _ _)) hM.1.o rfl rfl dX4_spellsNumber_38 41 rfl rfl rfl (Nat.le_of_ble_eq_true rfl) (by decide) ⟨Nat.zero_le _, Nat.zero_le _⟩ (fun G hhM => ?_)
        have hM := zMs.tr hM hhM
        have hM : zMs g G0 G o (ms_speltMany (ms_spelt M (x4_spellsByte_spelt (x4_spellsByte_spelt (x4_spellsByte_spelt (x4_spellsByte_spelt (mt_spelt M) 32 T) (nI (48 + ((v / 1000) % 10))) (T + 1)) (nI (48 + ((v / 100) % 10))) ((T + 1) + 1)) (nI (48 + ((v / 10) % 10))) (((T + 1) + 1) + 1))) (nI ((((T + 1) + 1) + 1) + 1))) := by simpa only [mg_spelt_speltMany, mgs_spelt, mc_spelt_speltMany, mm_spelt, mm_speltMany] using hM
        refine z_iload_n hX dX4_spellsNumber_41 42 rfl (i := 2) rfl 2 rfl ?_
        refine z_bipush hX dX4_spellsNumber_42 44 rfl zkb_10 ?_
        refine z_idiv hX dX4_spellsNumber_44 45 rfl (by decide) (w := 1) (by decide) ?_
        refine z_istore_n hX dX4_spellsNumber_45 46 rfl (i := 2) rfl (Nat.le_of_ble_eq_true rfl) rfl (L' := [(0, .ref o), (1, .int (nI v)), (2, .int 1)]) rfl ?_
        refine z_goto hX dX4_spellsNumber_46 (tgt := 24) (by decide) ?_
        refine z_iload_n hX dX4_spellsNumber_24 25 rfl (i := 2) rfl 2 rfl ?_
        refine z_if_le hX dX4_spellsNumber_25 28 rfl (tgt := 49) (by decide) (fun c17 => ?_) (fun c17 => ?_)
        · exact absurd c17 (by decide)
        refine z_aload_n hX dX4_spellsNumber_28 29 rfl (i := 0) rfl 0 rfl ?_
        refine z_bipush hX dX4_spellsNumber_29 31 rfl zkb_48 ?_
        refine z_iload_n hX dX4_spellsNumber_31 32 rfl (i := 1) rfl 1 rfl ?_
        refine z_iload_n hX dX4_spellsNumber_32 33 rfl (i := 2) rfl 2 rfl ?_
        refine z_idiv hX dX4_spellsNumber_33 34 rfl (by decide) (w := nI (v / 1)) (pk_div (by omega) (by decide) (by decide)) ?_
        refine z_bipush hX dX4_spellsNumber_34 36 rfl zkb_10 ?_
        refine z_irem hX dX4_spellsNumber_36 37 rfl (by decide) (w := nI ((v / 1) % 10)) (pk_rem (by omega) (by decide) (by decide)) ?_
        refine z_iadd hX dX4_spellsNumber_37 38 rfl (w := nI (48 + ((v / 1) % 10))) (nI_add 48 ((v / 1) % 10)) ?_
        refine z_callVv hX cwX4_345 (met_X4_spellsByte hG hM.1 (nI (48 + ((v / 1) % 10))) ((((T + 1) + 1) + 1) + 1) (by omega) (mgs_speltMany _ _)) hM.1.o rfl rfl dX4_spellsNumber_38 41 rfl rfl rfl (Nat.le_of_ble_eq_true rfl) (by decide) ⟨Nat.zero_le _, Nat.zero_le _⟩ (fun G hhM => ?_)
        have hM := zMs.tr hM hhM
        have hM : zMs g G0 G o (ms_speltMany (ms_spelt M (x4_spellsByte_spelt (x4_spellsByte_spelt (x4_spellsByte_spelt (x4_spellsByte_spelt (x4_spellsByte_spelt (mt_spelt M) 32 T) (nI (48 + ((v / 1000) % 10))) (T + 1)) (nI (48 + ((v / 100) % 10))) ((T + 1) + 1)) (nI (48 + ((v / 10) % 10))) (((T + 1) + 1) + 1)) (nI (48 + ((v / 1) % 10))) ((((T + 1) + 1) + 1) + 1))) (nI (((((T + 1) + 1) + 1) + 1) + 1))) := by simpa only [mg_spelt_speltMany, mgs_spelt, mc_spelt_speltMany, mm_spelt, mm_speltMany] using hM
        refine z_iload_n hX dX4_spellsNumber_41 42 rfl (i := 2) rfl 2 rfl ?_
        refine z_bipush hX dX4_spellsNumber_42 44 rfl zkb_10 ?_
        refine z_idiv hX dX4_spellsNumber_44 45 rfl (by decide) (w := 0) (by decide) ?_
        refine z_istore_n hX dX4_spellsNumber_45 46 rfl (i := 2) rfl (Nat.le_of_ble_eq_true rfl) rfl (L' := [(0, .ref o), (1, .int (nI v)), (2, .int 0)]) rfl ?_
        refine z_goto hX dX4_spellsNumber_46 (tgt := 24) (by decide) ?_
        refine z_iload_n hX dX4_spellsNumber_24 25 rfl (i := 2) rfl 2 rfl ?_
        refine z_if_le hX dX4_spellsNumber_25 28 rfl (tgt := 49) (by decide) (fun c18 => ?_) (fun c18 => ?_)
        rotate_left 1
        · exact absurd (by decide) c18
        exact z_vret hX hQ (Nat.zero_le _) (Nat.zero_le _) rfl dX4_spellsNumber_49 ⟨rfl, (by first | (simpa only [if_neg c1, if_neg c4, if_neg c8, me_spelt, me_speltMany] using hM) | (simpa only [if_neg c1, if_neg c4, if_neg c8, me2_spelt, me2_speltMany, mg_speltMany_spelt] using hM))⟩
theorem x4_spellsNumber_in {v T : Nat} : T + 2 ≤ x4_spellsNumber_speltMany v T ∧ x4_spellsNumber_speltMany v T ≤ T + 5 := by
  unfold x4_spellsNumber_speltMany
  (repeat' split) <;> omega
def x4_spells_asset_spelt (m_spelt : Nat → Int32) (T : Nat) : Nat → Int32 := x4_spellsByte_spelt (x4_spellsByte_spelt (x4_spellsByte_spelt (x4_spellsByte_spelt (x4_spellsByte_spelt (m_spelt) (nI 97) T) (nI 115) (T + 1)) (nI 115) ((T + 1) + 1)) (nI 101) (((T + 1) + 1) + 1)) (nI 116) ((((T + 1) + 1) + 1) + 1)
set_option maxHeartbeats 4000000 in
theorem met_X4_spells_asset {g : Zg} (hG : zG g) {G0 : zHG} {o : Nat} {M : MT} (hM : zMo g G0 o M) (T : Nat)  (h_T : T < 1195) (hfT : mt_speltMany M = nI T)  : ZM g yX4_spells cX4_spells 7 none 2 0 0 [.ref o, .long 919424] G0 (fun r G' => r = none ∧ zMs g G0 G' o (ms_speltMany (ms_spelt M (x4_spells_asset_spelt (mt_spelt M) T)) (nI (((((T + 1) + 1) + 1) + 1) + 1)))) := by
  unfold x4_spells_asset_spelt
  refine ZM_mk hG (by decide) (Nat.le_of_ble_eq_true rfl) ?_
  intro X hX hname hQ
  obtain ⟨G, hGe⟩ : ∃ z, z = G0 := ⟨_, rfl⟩
  have hM : zMs g G0 G o M := by rw [hGe]; exact zMs.rf hM
  show ZW g X 0 0 G0 0 [(0, .ref o), (1, .long 919424)] []
  rw [← hGe]
  have hM : zMs g G0 G o (ms_speltMany M (nI T)) := by simpa only [me2_speltMany, hfT] using hM
  refine z_lconst hX dX4_spells_0 1 rfl (w := 1) rfl ?_
  refine z_lstore_n hX dX4_spells_1 2 rfl (i := 3) rfl (Nat.le_of_ble_eq_true rfl) rfl (L' := [(0, .ref o), (1, .long 919424), (3, .long 1)]) rfl ?_
  refine z_ldc2 hX q1746 dX4_spells_2 5 rfl ?_
  refine z_lload_n hX dX4_spells_5 6 rfl (i := 3) rfl 2 rfl ?_
  refine z_lmul hX dX4_spells_6 7 rfl ?_
  refine z_eqL (L' := [(0, .ref o), (1, .long 919424), (3, .long 1)]) (st' := [.long 27]) rfl (by rw [show (27 * 1 : Int64) = 27 from by decide]) ?_
  refine z_lload_n hX dX4_spells_7 8 rfl (i := 1) rfl 1 rfl ?_
  refine z_lcmp hX dX4_spells_8 9 rfl ?_
  refine z_lcmp_gt hX dX4_spells_9 12 rfl (tgt := 21) (by decide) (fun c1 => ?_) (fun c1 => ?_)
  · exact absurd c1 (by decide)
  refine z_lload_n hX dX4_spells_12 13 rfl (i := 3) rfl 2 rfl ?_
  refine z_ldc2 hX q1746 dX4_spells_13 16 rfl ?_
  refine z_lmul hX dX4_spells_16 17 rfl ?_
  refine z_eqL (L' := [(0, .ref o), (1, .long 919424), (3, .long 1)]) (st' := [.long 27]) rfl (by rw [show (1 * 27 : Int64) = 27 from by decide]) ?_
  refine z_lstore_n hX dX4_spells_17 18 rfl (i := 3) rfl (Nat.le_of_ble_eq_true rfl) rfl (L' := [(0, .ref o), (1, .long 919424), (3, .long 27)]) rfl ?_
  refine z_goto hX dX4_spells_18 (tgt := 2) (by decide) ?_
  refine z_ldc2 hX q1746 dX4_spells_2 5 rfl ?_
  refine z_lload_n hX dX4_spells_5 6 rfl (i := 3) rfl 2 rfl ?_
  refine z_lmul hX dX4_spells_6 7 rfl ?_
  refine z_eqL (L' := [(0, .ref o), (1, .long 919424), (3, .long 27)]) (st' := [.long 729]) rfl (by rw [show (27 * 27 : Int64) = 729 from by decide]) ?_
  refine z_lload_n hX dX4_spells_7 8 rfl (i := 1) rfl 1 rfl ?_
  refine z_lcmp hX dX4_spells_8 9 rfl ?_
  refine z_lcmp_gt hX dX4_spells_9 12 rfl (tgt := 21) (by decide) (fun c2 => ?_) (fun c2 => ?_)
  · exact absurd c2 (by decide)
  refine z_lload_n hX dX4_spells_12 13 rfl (i := 3) rfl 2 rfl ?_
  refine z_ldc2 hX q1746 dX4_spells_13 16 rfl ?_
  refine z_lmul hX dX4_spells_16 17 rfl ?_
  refine z_eqL (L' := [(0, .ref o), (1, .long 919424), (3, .long 27)]) (st' := [.long 729]) rfl (by rw [show (27 * 27 : Int64) = 729 from by decide]) ?_
  refine z_lstore_n hX dX4_spells_17 18 rfl (i := 3) rfl (Nat.le_of_ble_eq_true rfl) rfl (L' := [(0, .ref o), (1, .long 919424), (3, .long 729)]) rfl ?_
  refine z_goto hX dX4_spells_18 (tgt := 2) (by decide) ?_
  refine z_ldc2 hX q1746 dX4_spells_2 5 rfl ?_
  refine z_lload_n hX dX4_spells_5 6 rfl (i := 3) rfl 2 rfl ?_
  refine z_lmul hX dX4_spells_6 7 rfl ?_
  refine z_eqL (L' := [(0, .ref o), (1, .long 919424), (3, .long 729)]) (st' := [.long 19683]) rfl (by rw [show (27 * 729 : Int64) = 19683 from by decide]) ?_
  refine z_lload_n hX dX4_spells_7 8 rfl (i := 1) rfl 1 rfl ?_
  refine z_lcmp hX dX4_spells_8 9 rfl ?_
  refine z_lcmp_gt hX dX4_spells_9 12 rfl (tgt := 21) (by decide) (fun c3 => ?_) (fun c3 => ?_)
  · exact absurd c3 (by decide)
  refine z_lload_n hX dX4_spells_12 13 rfl (i := 3) rfl 2 rfl ?_
  refine z_ldc2 hX q1746 dX4_spells_13 16 rfl ?_
  refine z_lmul hX dX4_spells_16 17 rfl ?_
  refine z_eqL (L' := [(0, .ref o), (1, .long 919424), (3, .long 729)]) (st' := [.long 19683]) rfl (by rw [show (729 * 27 : Int64) = 19683 from by decide]) ?_
  refine z_lstore_n hX dX4_spells_17 18 rfl (i := 3) rfl (Nat.le_of_ble_eq_true rfl) rfl (L' := [(0, .ref o), (1, .long 919424), (3, .long 19683)]) rfl ?_
  refine z_goto hX dX4_spells_18 (tgt := 2) (by decide) ?_
  refine z_ldc2 hX q1746 dX4_spells_2 5 rfl ?_
  refine z_lload_n hX dX4_spells_5 6 rfl (i := 3) rfl 2 rfl ?_
  refine z_lmul hX dX4_spells_6 7 rfl ?_
  refine z_eqL (L' := [(0, .ref o), (1, .long 919424), (3, .long 19683)]) (st' := [.long 531441]) rfl (by rw [show (27 * 19683 : Int64) = 531441 from by decide]) ?_
  refine z_lload_n hX dX4_spells_7 8 rfl (i := 1) rfl 1 rfl ?_
  refine z_lcmp hX dX4_spells_8 9 rfl ?_
  refine z_lcmp_gt hX dX4_spells_9 12 rfl (tgt := 21) (by decide) (fun c4 => ?_) (fun c4 => ?_)
  · exact absurd c4 (by decide)
  refine z_lload_n hX dX4_spells_12 13 rfl (i := 3) rfl 2 rfl ?_
  refine z_ldc2 hX q1746 dX4_spells_13 16 rfl ?_
  refine z_lmul hX dX4_spells_16 17 rfl ?_
  refine z_eqL (L' := [(0, .ref o), (1, .long 919424), (3, .long 19683)]) (st' := [.long 531441]) rfl (by rw [show (19683 * 27 : Int64) = 531441 from by decide]) ?_
  refine z_lstore_n hX dX4_spells_17 18 rfl (i := 3) rfl (Nat.le_of_ble_eq_true rfl) rfl (L' := [(0, .ref o), (1, .long 919424), (3, .long 531441)]) rfl ?_
  refine z_goto hX dX4_spells_18 (tgt := 2) (by decide) ?_
  refine z_ldc2 hX q1746 dX4_spells_2 5 rfl ?_
  refine z_lload_n hX dX4_spells_5 6 rfl (i := 3) rfl 2 rfl ?_
  refine z_lmul hX dX4_spells_6 7 rfl ?_
  refine z_eqL (L' := [(0, .ref o), (1, .long 919424), (3, .long 531441)]) (st' := [.long 14348907]) rfl (by rw [show (27 * 531441 : Int64) = 14348907 from by decide]) ?_
  refine z_lload_n hX dX4_spells_7 8 rfl (i := 1) rfl 1 rfl ?_
  refine z_lcmp hX dX4_spells_8 9 rfl ?_
  refine z_lcmp_gt hX dX4_spells_9 12 rfl (tgt := 21) (by decide) (fun c5 => ?_) (fun c5 => ?_)
  rotate_left 1
  · exact absurd (by decide) c5
  refine z_lload_n hX dX4_spells_21 22 rfl (i := 3) rfl 2 rfl ?_
  refine z_lstore hX dX4_spells_22 24 rfl (Nat.le_of_ble_eq_true rfl) rfl (L' := [(0, .ref o), (1, .long 919424), (3, .long 531441), (5, .long 531441)]) rfl ?_
  refine z_lload hX dX4_spells_24 26 rfl 3 rfl ?_
  refine z_lconst hX dX4_spells_26 27 rfl (w := 0) rfl ?_
  refine z_lcmp hX dX4_spells_27 28 rfl ?_
  refine z_lcmp_le hX dX4_spells_28 31 rfl (tgt := 58) (by decide) (fun c6 => ?_) (fun c6 => ?_)
  · exact absurd (by decide) c6
  refine z_aload_n hX dX4_spells_31 32 rfl (i := 0) rfl 0 rfl ?_
  refine z_lload_n hX dX4_spells_32 33 rfl (i := 1) rfl 1 rfl ?_
  refine z_lload hX dX4_spells_33 35 rfl 3 rfl ?_
  refine z_ldiv hX dX4_spells_35 36 rfl (by first | assumption | decide) ?_
  refine z_eqL (L' := [(0, .ref o), (1, .long 919424), (3, .long 531441), (5, .long 531441)]) (st' := [.long 1, .ref o]) rfl (by rw [show (919424 / 531441 : Int64) = 1 from by decide]) ?_
  refine z_ldc2 hX q1746 dX4_spells_36 39 rfl ?_
  refine z_lrem hX dX4_spells_39 40 rfl (by first | assumption | decide) ?_
  refine z_eqL (L' := [(0, .ref o), (1, .long 919424), (3, .long 531441), (5, .long 531441)]) (st' := [.long 1, .ref o]) rfl (by rw [show (1 - 1 / 27 * 27 : Int64) = 1 from by decide]) ?_
  refine z_l2i hX dX4_spells_40 41 rfl (w := 1) (by decide) ?_
  refine z_bipush hX dX4_spells_41 43 rfl zkb_96 ?_
  refine z_iadd hX dX4_spells_43 44 rfl (w := nI 97) (nI_add 1 96) ?_
  refine z_callVv hX cwX4_345 (met_X4_spellsByte hG hM.1 (nI 97) T (by omega) (mgs_speltMany _ _)) hM.1.o rfl rfl dX4_spells_44 47 rfl rfl rfl (Nat.le_of_ble_eq_true rfl) (by decide) ⟨Nat.zero_le _, Nat.zero_le _⟩ (fun G hhM => ?_)
  have hM := zMs.tr hM hhM
  have hM : zMs g G0 G o (ms_speltMany (ms_spelt M (x4_spellsByte_spelt (mt_spelt M) (nI 97) T)) (nI (T + 1))) := by simpa only [mg_spelt_speltMany, mc_spelt_speltMany, mm_spelt, mm_speltMany] using hM
  refine z_lload hX dX4_spells_47 49 rfl 3 rfl ?_
  refine z_ldc2 hX q1746 dX4_spells_49 52 rfl ?_
  refine z_ldiv hX dX4_spells_52 53 rfl (by first | assumption | decide) ?_
  refine z_eqL (L' := [(0, .ref o), (1, .long 919424), (3, .long 531441), (5, .long 531441)]) (st' := [.long 19683]) rfl (by rw [show (531441 / 27 : Int64) = 19683 from by decide]) ?_
  refine z_lstore hX dX4_spells_53 55 rfl (Nat.le_of_ble_eq_true rfl) rfl (L' := [(0, .ref o), (1, .long 919424), (3, .long 531441), (5, .long 19683)]) rfl ?_
  refine z_goto hX dX4_spells_55 (tgt := 24) (by decide) ?_
  refine z_lload hX dX4_spells_24 26 rfl 3 rfl ?_
  refine z_lconst hX dX4_spells_26 27 rfl (w := 0) rfl ?_
  refine z_lcmp hX dX4_spells_27 28 rfl ?_
  refine z_lcmp_le hX dX4_spells_28 31 rfl (tgt := 58) (by decide) (fun c7 => ?_) (fun c7 => ?_)
  · exact absurd (by decide) c7
  refine z_aload_n hX dX4_spells_31 32 rfl (i := 0) rfl 0 rfl ?_
  refine z_lload_n hX dX4_spells_32 33 rfl (i := 1) rfl 1 rfl ?_
  refine z_lload hX dX4_spells_33 35 rfl 3 rfl ?_
  refine z_ldiv hX dX4_spells_35 36 rfl (by first | assumption | decide) ?_
  refine z_eqL (L' := [(0, .ref o), (1, .long 919424), (3, .long 531441), (5, .long 19683)]) (st' := [.long 46, .ref o]) rfl (by rw [show (919424 / 19683 : Int64) = 46 from by decide]) ?_
  refine z_ldc2 hX q1746 dX4_spells_36 39 rfl ?_
  refine z_lrem hX dX4_spells_39 40 rfl (by first | assumption | decide) ?_
  refine z_eqL (L' := [(0, .ref o), (1, .long 919424), (3, .long 531441), (5, .long 19683)]) (st' := [.long 19, .ref o]) rfl (by rw [show (46 - 46 / 27 * 27 : Int64) = 19 from by decide]) ?_
  refine z_l2i hX dX4_spells_40 41 rfl (w := 19) (by decide) ?_
  refine z_bipush hX dX4_spells_41 43 rfl zkb_96 ?_
  refine z_iadd hX dX4_spells_43 44 rfl (w := nI 115) (nI_add 19 96) ?_
  refine z_callVv hX cwX4_345 (met_X4_spellsByte hG hM.1 (nI 115) (T + 1) (by omega) (mgs_speltMany _ _)) hM.1.o rfl rfl dX4_spells_44 47 rfl rfl rfl (Nat.le_of_ble_eq_true rfl) (by decide) ⟨Nat.zero_le _, Nat.zero_le _⟩ (fun G hhM => ?_)
  have hM := zMs.tr hM hhM
  have hM : zMs g G0 G o (ms_speltMany (ms_spelt M (x4_spellsByte_spelt (x4_spellsByte_spelt (mt_spelt M) (nI 97) T) (nI 115) (T + 1))) (nI ((T + 1) + 1))) := by simpa only [mg_spelt_speltMany, mgs_spelt, mc_spelt_speltMany, mm_spelt, mm_speltMany] using hM
  refine z_lload hX dX4_spells_47 49 rfl 3 rfl ?_
  refine z_ldc2 hX q1746 dX4_spells_49 52 rfl ?_
  refine z_ldiv hX dX4_spells_52 53 rfl (by first | assumption | decide) ?_
  refine z_eqL (L' := [(0, .ref o), (1, .long 919424), (3, .long 531441), (5, .long 19683)]) (st' := [.long 729]) rfl (by rw [show (19683 / 27 : Int64) = 729 from by decide]) ?_
  refine z_lstore hX dX4_spells_53 55 rfl (Nat.le_of_ble_eq_true rfl) rfl (L' := [(0, .ref o), (1, .long 919424), (3, .long 531441), (5, .long 729)]) rfl ?_
  refine z_goto hX dX4_spells_55 (tgt := 24) (by decide) ?_
  refine z_lload hX dX4_spells_24 26 rfl 3 rfl ?_
  refine z_lconst hX dX4_spells_26 27 rfl (w := 0) rfl ?_
  refine z_lcmp hX dX4_spells_27 28 rfl ?_
  refine z_lcmp_le hX dX4_spells_28 31 rfl (tgt := 58) (by decide) (fun c8 => ?_) (fun c8 => ?_)
  · exact absurd (by decide) c8
  refine z_aload_n hX dX4_spells_31 32 rfl (i := 0) rfl 0 rfl ?_
  refine z_lload_n hX dX4_spells_32 33 rfl (i := 1) rfl 1 rfl ?_
  refine z_lload hX dX4_spells_33 35 rfl 3 rfl ?_
  refine z_ldiv hX dX4_spells_35 36 rfl (by first | assumption | decide) ?_
  refine z_eqL (L' := [(0, .ref o), (1, .long 919424), (3, .long 531441), (5, .long 729)]) (st' := [.long 1261, .ref o]) rfl (by rw [show (919424 / 729 : Int64) = 1261 from by decide]) ?_
  refine z_ldc2 hX q1746 dX4_spells_36 39 rfl ?_
  refine z_lrem hX dX4_spells_39 40 rfl (by first | assumption | decide) ?_
  refine z_eqL (L' := [(0, .ref o), (1, .long 919424), (3, .long 531441), (5, .long 729)]) (st' := [.long 19, .ref o]) rfl (by rw [show (1261 - 1261 / 27 * 27 : Int64) = 19 from by decide]) ?_
  refine z_l2i hX dX4_spells_40 41 rfl (w := 19) (by decide) ?_
  refine z_bipush hX dX4_spells_41 43 rfl zkb_96 ?_
  refine z_iadd hX dX4_spells_43 44 rfl (w := nI 115) (nI_add 19 96) ?_
  refine z_callVv hX cwX4_345 (met_X4_spellsByte hG hM.1 (nI 115) ((T + 1) + 1) (by omega) (mgs_speltMany _ _)) hM.1.o rfl rfl dX4_spells_44 47 rfl rfl rfl (Nat.le_of_ble_eq_true rfl) (by decide) ⟨Nat.zero_le _, Nat.zero_le _⟩ (fun G hhM => ?_)
  have hM := zMs.tr hM hhM
  have hM : zMs g G0 G o (ms_speltMany (ms_spelt M (x4_spellsByte_spelt (x4_spellsByte_spelt (x4_spellsByte_spelt (mt_spelt M) (nI 97) T) (nI 115) (T + 1)) (nI 115) ((T + 1) + 1))) (nI (((T + 1) + 1) + 1))) := by simpa only [mg_spelt_speltMany, mgs_spelt, mc_spelt_speltMany, mm_spelt, mm_speltMany] using hM
  refine z_lload hX dX4_spells_47 49 rfl 3 rfl ?_
  refine z_ldc2 hX q1746 dX4_spells_49 52 rfl ?_
  refine z_ldiv hX dX4_spells_52 53 rfl (by first | assumption | decide) ?_
  refine z_eqL (L' := [(0, .ref o), (1, .long 919424), (3, .long 531441), (5, .long 729)]) (st' := [.long 27]) rfl (by rw [show (729 / 27 : Int64) = 27 from by decide]) ?_
  refine z_lstore hX dX4_spells_53 55 rfl (Nat.le_of_ble_eq_true rfl) rfl (L' := [(0, .ref o), (1, .long 919424), (3, .long 531441), (5, .long 27)]) rfl ?_
  refine z_goto hX dX4_spells_55 (tgt := 24) (by decide) ?_
  refine z_lload hX dX4_spells_24 26 rfl 3 rfl ?_
  refine z_lconst hX dX4_spells_26 27 rfl (w := 0) rfl ?_
  refine z_lcmp hX dX4_spells_27 28 rfl ?_
  refine z_lcmp_le hX dX4_spells_28 31 rfl (tgt := 58) (by decide) (fun c9 => ?_) (fun c9 => ?_)
  · exact absurd (by decide) c9
  refine z_aload_n hX dX4_spells_31 32 rfl (i := 0) rfl 0 rfl ?_
  refine z_lload_n hX dX4_spells_32 33 rfl (i := 1) rfl 1 rfl ?_
  refine z_lload hX dX4_spells_33 35 rfl 3 rfl ?_
  refine z_ldiv hX dX4_spells_35 36 rfl (by first | assumption | decide) ?_
  refine z_eqL (L' := [(0, .ref o), (1, .long 919424), (3, .long 531441), (5, .long 27)]) (st' := [.long 34052, .ref o]) rfl (by rw [show (919424 / 27 : Int64) = 34052 from by decide]) ?_
  refine z_ldc2 hX q1746 dX4_spells_36 39 rfl ?_
  refine z_lrem hX dX4_spells_39 40 rfl (by first | assumption | decide) ?_
  refine z_eqL (L' := [(0, .ref o), (1, .long 919424), (3, .long 531441), (5, .long 27)]) (st' := [.long 5, .ref o]) rfl (by rw [show (34052 - 34052 / 27 * 27 : Int64) = 5 from by decide]) ?_
  refine z_l2i hX dX4_spells_40 41 rfl (w := 5) (by decide) ?_
  refine z_bipush hX dX4_spells_41 43 rfl zkb_96 ?_
  refine z_iadd hX dX4_spells_43 44 rfl (w := nI 101) (nI_add 5 96) ?_
  refine z_callVv hX cwX4_345 (met_X4_spellsByte hG hM.1 (nI 101) (((T + 1) + 1) + 1) (by omega) (mgs_speltMany _ _)) hM.1.o rfl rfl dX4_spells_44 47 rfl rfl rfl (Nat.le_of_ble_eq_true rfl) (by decide) ⟨Nat.zero_le _, Nat.zero_le _⟩ (fun G hhM => ?_)
  have hM := zMs.tr hM hhM
  have hM : zMs g G0 G o (ms_speltMany (ms_spelt M (x4_spellsByte_spelt (x4_spellsByte_spelt (x4_spellsByte_spelt (x4_spellsByte_spelt (mt_spelt M) (nI 97) T) (nI 115) (T + 1)) (nI 115) ((T + 1) + 1)) (nI 101) (((T + 1) + 1) + 1))) (nI ((((T + 1) + 1) + 1) + 1))) := by simpa only [mg_spelt_speltMany, mgs_spelt, mc_spelt_speltMany, mm_spelt, mm_speltMany] using hM
  refine z_lload hX dX4_spells_47 49 rfl 3 rfl ?_
  refine z_ldc2 hX q1746 dX4_spells_49 52 rfl ?_
  refine z_ldiv hX dX4_spells_52 53 rfl (by first | assumption | decide) ?_
  refine z_eqL (L' := [(0, .ref o), (1, .long 919424), (3, .long 531441), (5, .long 27)]) (st' := [.long 1]) rfl (by rw [show (27 / 27 : Int64) = 1 from by decide]) ?_
  refine z_lstore hX dX4_spells_53 55 rfl (Nat.le_of_ble_eq_true rfl) rfl (L' := [(0, .ref o), (1, .long 919424), (3, .long 531441), (5, .long 1)]) rfl ?_
  refine z_goto hX dX4_spells_55 (tgt := 24) (by decide) ?_
  refine z_lload hX dX4_spells_24 26 rfl 3 rfl ?_
  refine z_lconst hX dX4_spells_26 27 rfl (w := 0) rfl ?_
  refine z_lcmp hX dX4_spells_27 28 rfl ?_
  refine z_lcmp_le hX dX4_spells_28 31 rfl (tgt := 58) (by decide) (fun c10 => ?_) (fun c10 => ?_)
  · exact absurd (by decide) c10
  refine z_aload_n hX dX4_spells_31 32 rfl (i := 0) rfl 0 rfl ?_
  refine z_lload_n hX dX4_spells_32 33 rfl (i := 1) rfl 1 rfl ?_
  refine z_lload hX dX4_spells_33 35 rfl 3 rfl ?_
  refine z_ldiv hX dX4_spells_35 36 rfl (by first | assumption | decide) ?_
  refine z_eqL (L' := [(0, .ref o), (1, .long 919424), (3, .long 531441), (5, .long 1)]) (st' := [.long 919424, .ref o]) rfl (by rw [show (919424 / 1 : Int64) = 919424 from by decide]) ?_
  refine z_ldc2 hX q1746 dX4_spells_36 39 rfl ?_
  refine z_lrem hX dX4_spells_39 40 rfl (by first | assumption | decide) ?_
  refine z_eqL (L' := [(0, .ref o), (1, .long 919424), (3, .long 531441), (5, .long 1)]) (st' := [.long 20, .ref o]) rfl (by rw [show (919424 - 919424 / 27 * 27 : Int64) = 20 from by decide]) ?_
  refine z_l2i hX dX4_spells_40 41 rfl (w := 20) (by decide) ?_
  refine z_bipush hX dX4_spells_41 43 rfl zkb_96 ?_
  refine z_iadd hX dX4_spells_43 44 rfl (w := nI 116) (nI_add 20 96) ?_
  refine z_callVv hX cwX4_345 (met_X4_spellsByte hG hM.1 (nI 116) ((((T + 1) + 1) + 1) + 1) (by omega) (mgs_speltMany _ _)) hM.1.o rfl rfl dX4_spells_44 47 rfl rfl rfl (Nat.le_of_ble_eq_true rfl) (by decide) ⟨Nat.zero_le _, Nat.zero_le _⟩ (fun G hhM => ?_)
  have hM := zMs.tr hM hhM
  have hM : zMs g G0 G o (ms_speltMany (ms_spelt M (x4_spellsByte_spelt (x4_spellsByte_spelt (x4_spellsByte_spelt (x4_spellsByte_spelt (x4_spellsByte_spelt (mt_spelt M) (nI 97) T) (nI 115) (T + 1)) (nI 115) ((T + 1) + 1)) (nI 101) (((T + 1) + 1) + 1)) (nI 116) ((((T + 1) + 1) + 1) + 1))) (nI (((((T + 1) + 1) + 1) + 1) + 1))) := by simpa only [mg_spelt_speltMany, mgs_spelt, mc_spelt_speltMany, mm_spelt, mm_speltMany] using hM
  refine z_lload hX dX4_spells_47 49 rfl 3 rfl ?_
  refine z_ldc2 hX q1746 dX4_spells_49 52 rfl ?_
  refine z_ldiv hX dX4_spells_52 53 rfl (by first | assumption | decide) ?_
  refine z_eqL (L' := [(0, .ref o), (1, .long 919424), (3, .long 531441), (5, .long 1)]) (st' := [.long 0]) rfl (by rw [show (1 / 27 : Int64) = 0 from by decide]) ?_
  refine z_lstore hX dX4_spells_53 55 rfl (Nat.le_of_ble_eq_true rfl) rfl (L' := [(0, .ref o), (1, .long 919424), (3, .long 531441), (5, .long 0)]) rfl ?_
  refine z_goto hX dX4_spells_55 (tgt := 24) (by decide) ?_
  refine z_lload hX dX4_spells_24 26 rfl 3 rfl ?_
  refine z_lconst hX dX4_spells_26 27 rfl (w := 0) rfl ?_
  refine z_lcmp hX dX4_spells_27 28 rfl ?_
  refine z_lcmp_le hX dX4_spells_28 31 rfl (tgt := 58) (by decide) (fun c11 => ?_) (fun c11 => ?_)
  rotate_left 1
  · exact absurd c11 (by decide)
  exact z_vret hX hQ (Nat.zero_le _) (Nat.zero_le _) rfl dX4_spells_58 ⟨rfl, hM⟩
def x4_spells_house_spelt (m_spelt : Nat → Int32) (T : Nat) : Nat → Int32 := x4_spellsByte_spelt (x4_spellsByte_spelt (x4_spellsByte_spelt (x4_spellsByte_spelt (x4_spellsByte_spelt (m_spelt) (nI 104) T) (nI 111) (T + 1)) (nI 117) ((T + 1) + 1)) (nI 115) (((T + 1) + 1) + 1)) (nI 101) ((((T + 1) + 1) + 1) + 1)
set_option maxHeartbeats 4000000 in
theorem met_X4_spells_house {g : Zg} (hG : zG g) {G0 : zHG} {o : Nat} {M : MT} (hM : zMo g G0 o M) (T : Nat)  (h_T : T < 1195) (hfT : mt_speltMany M = nI T)  : ZM g yX4_spells cX4_spells 7 none 2 0 0 [.ref o, .long 4562600] G0 (fun r G' => r = none ∧ zMs g G0 G' o (ms_speltMany (ms_spelt M (x4_spells_house_spelt (mt_spelt M) T)) (nI (((((T + 1) + 1) + 1) + 1) + 1)))) := by
  unfold x4_spells_house_spelt
  refine ZM_mk hG (by decide) (Nat.le_of_ble_eq_true rfl) ?_
  intro X hX hname hQ
  obtain ⟨G, hGe⟩ : ∃ z, z = G0 := ⟨_, rfl⟩
  have hM : zMs g G0 G o M := by rw [hGe]; exact zMs.rf hM
  show ZW g X 0 0 G0 0 [(0, .ref o), (1, .long 4562600)] []
  rw [← hGe]
  have hM : zMs g G0 G o (ms_speltMany M (nI T)) := by simpa only [me2_speltMany, hfT] using hM
  refine z_lconst hX dX4_spells_0 1 rfl (w := 1) rfl ?_
  refine z_lstore_n hX dX4_spells_1 2 rfl (i := 3) rfl (Nat.le_of_ble_eq_true rfl) rfl (L' := [(0, .ref o), (1, .long 4562600), (3, .long 1)]) rfl ?_
  refine z_ldc2 hX q1746 dX4_spells_2 5 rfl ?_
  refine z_lload_n hX dX4_spells_5 6 rfl (i := 3) rfl 2 rfl ?_
  refine z_lmul hX dX4_spells_6 7 rfl ?_
  refine z_eqL (L' := [(0, .ref o), (1, .long 4562600), (3, .long 1)]) (st' := [.long 27]) rfl (by rw [show (27 * 1 : Int64) = 27 from by decide]) ?_
  refine z_lload_n hX dX4_spells_7 8 rfl (i := 1) rfl 1 rfl ?_
  refine z_lcmp hX dX4_spells_8 9 rfl ?_
  refine z_lcmp_gt hX dX4_spells_9 12 rfl (tgt := 21) (by decide) (fun c1 => ?_) (fun c1 => ?_)
  · exact absurd c1 (by decide)
  refine z_lload_n hX dX4_spells_12 13 rfl (i := 3) rfl 2 rfl ?_
  refine z_ldc2 hX q1746 dX4_spells_13 16 rfl ?_
  refine z_lmul hX dX4_spells_16 17 rfl ?_
  refine z_eqL (L' := [(0, .ref o), (1, .long 4562600), (3, .long 1)]) (st' := [.long 27]) rfl (by rw [show (1 * 27 : Int64) = 27 from by decide]) ?_
  refine z_lstore_n hX dX4_spells_17 18 rfl (i := 3) rfl (Nat.le_of_ble_eq_true rfl) rfl (L' := [(0, .ref o), (1, .long 4562600), (3, .long 27)]) rfl ?_
  refine z_goto hX dX4_spells_18 (tgt := 2) (by decide) ?_
  refine z_ldc2 hX q1746 dX4_spells_2 5 rfl ?_
  refine z_lload_n hX dX4_spells_5 6 rfl (i := 3) rfl 2 rfl ?_
  refine z_lmul hX dX4_spells_6 7 rfl ?_
  refine z_eqL (L' := [(0, .ref o), (1, .long 4562600), (3, .long 27)]) (st' := [.long 729]) rfl (by rw [show (27 * 27 : Int64) = 729 from by decide]) ?_
  refine z_lload_n hX dX4_spells_7 8 rfl (i := 1) rfl 1 rfl ?_
  refine z_lcmp hX dX4_spells_8 9 rfl ?_
  refine z_lcmp_gt hX dX4_spells_9 12 rfl (tgt := 21) (by decide) (fun c2 => ?_) (fun c2 => ?_)
  · exact absurd c2 (by decide)
  refine z_lload_n hX dX4_spells_12 13 rfl (i := 3) rfl 2 rfl ?_
  refine z_ldc2 hX q1746 dX4_spells_13 16 rfl ?_
  refine z_lmul hX dX4_spells_16 17 rfl ?_
  refine z_eqL (L' := [(0, .ref o), (1, .long 4562600), (3, .long 27)]) (st' := [.long 729]) rfl (by rw [show (27 * 27 : Int64) = 729 from by decide]) ?_
  refine z_lstore_n hX dX4_spells_17 18 rfl (i := 3) rfl (Nat.le_of_ble_eq_true rfl) rfl (L' := [(0, .ref o), (1, .long 4562600), (3, .long 729)]) rfl ?_
  refine z_goto hX dX4_spells_18 (tgt := 2) (by decide) ?_
  refine z_ldc2 hX q1746 dX4_spells_2 5 rfl ?_
  refine z_lload_n hX dX4_spells_5 6 rfl (i := 3) rfl 2 rfl ?_
  refine z_lmul hX dX4_spells_6 7 rfl ?_
  refine z_eqL (L' := [(0, .ref o), (1, .long 4562600), (3, .long 729)]) (st' := [.long 19683]) rfl (by rw [show (27 * 729 : Int64) = 19683 from by decide]) ?_
  refine z_lload_n hX dX4_spells_7 8 rfl (i := 1) rfl 1 rfl ?_
  refine z_lcmp hX dX4_spells_8 9 rfl ?_
  refine z_lcmp_gt hX dX4_spells_9 12 rfl (tgt := 21) (by decide) (fun c3 => ?_) (fun c3 => ?_)
  · exact absurd c3 (by decide)
  refine z_lload_n hX dX4_spells_12 13 rfl (i := 3) rfl 2 rfl ?_
  refine z_ldc2 hX q1746 dX4_spells_13 16 rfl ?_
  refine z_lmul hX dX4_spells_16 17 rfl ?_
  refine z_eqL (L' := [(0, .ref o), (1, .long 4562600), (3, .long 729)]) (st' := [.long 19683]) rfl (by rw [show (729 * 27 : Int64) = 19683 from by decide]) ?_
  refine z_lstore_n hX dX4_spells_17 18 rfl (i := 3) rfl (Nat.le_of_ble_eq_true rfl) rfl (L' := [(0, .ref o), (1, .long 4562600), (3, .long 19683)]) rfl ?_
  refine z_goto hX dX4_spells_18 (tgt := 2) (by decide) ?_
  refine z_ldc2 hX q1746 dX4_spells_2 5 rfl ?_
  refine z_lload_n hX dX4_spells_5 6 rfl (i := 3) rfl 2 rfl ?_
  refine z_lmul hX dX4_spells_6 7 rfl ?_
  refine z_eqL (L' := [(0, .ref o), (1, .long 4562600), (3, .long 19683)]) (st' := [.long 531441]) rfl (by rw [show (27 * 19683 : Int64) = 531441 from by decide]) ?_
  refine z_lload_n hX dX4_spells_7 8 rfl (i := 1) rfl 1 rfl ?_
  refine z_lcmp hX dX4_spells_8 9 rfl ?_
  refine z_lcmp_gt hX dX4_spells_9 12 rfl (tgt := 21) (by decide) (fun c4 => ?_) (fun c4 => ?_)
  · exact absurd c4 (by decide)
  refine z_lload_n hX dX4_spells_12 13 rfl (i := 3) rfl 2 rfl ?_
  refine z_ldc2 hX q1746 dX4_spells_13 16 rfl ?_
  refine z_lmul hX dX4_spells_16 17 rfl ?_
  refine z_eqL (L' := [(0, .ref o), (1, .long 4562600), (3, .long 19683)]) (st' := [.long 531441]) rfl (by rw [show (19683 * 27 : Int64) = 531441 from by decide]) ?_
  refine z_lstore_n hX dX4_spells_17 18 rfl (i := 3) rfl (Nat.le_of_ble_eq_true rfl) rfl (L' := [(0, .ref o), (1, .long 4562600), (3, .long 531441)]) rfl ?_
  refine z_goto hX dX4_spells_18 (tgt := 2) (by decide) ?_
  refine z_ldc2 hX q1746 dX4_spells_2 5 rfl ?_
  refine z_lload_n hX dX4_spells_5 6 rfl (i := 3) rfl 2 rfl ?_
  refine z_lmul hX dX4_spells_6 7 rfl ?_
  refine z_eqL (L' := [(0, .ref o), (1, .long 4562600), (3, .long 531441)]) (st' := [.long 14348907]) rfl (by rw [show (27 * 531441 : Int64) = 14348907 from by decide]) ?_
  refine z_lload_n hX dX4_spells_7 8 rfl (i := 1) rfl 1 rfl ?_
  refine z_lcmp hX dX4_spells_8 9 rfl ?_
  refine z_lcmp_gt hX dX4_spells_9 12 rfl (tgt := 21) (by decide) (fun c5 => ?_) (fun c5 => ?_)
  rotate_left 1
  · exact absurd (by decide) c5
  refine z_lload_n hX dX4_spells_21 22 rfl (i := 3) rfl 2 rfl ?_
  refine z_lstore hX dX4_spells_22 24 rfl (Nat.le_of_ble_eq_true rfl) rfl (L' := [(0, .ref o), (1, .long 4562600), (3, .long 531441), (5, .long 531441)]) rfl ?_
  refine z_lload hX dX4_spells_24 26 rfl 3 rfl ?_
  refine z_lconst hX dX4_spells_26 27 rfl (w := 0) rfl ?_
  refine z_lcmp hX dX4_spells_27 28 rfl ?_
  refine z_lcmp_le hX dX4_spells_28 31 rfl (tgt := 58) (by decide) (fun c6 => ?_) (fun c6 => ?_)
  · exact absurd (by decide) c6
  refine z_aload_n hX dX4_spells_31 32 rfl (i := 0) rfl 0 rfl ?_
  refine z_lload_n hX dX4_spells_32 33 rfl (i := 1) rfl 1 rfl ?_
  refine z_lload hX dX4_spells_33 35 rfl 3 rfl ?_
  refine z_ldiv hX dX4_spells_35 36 rfl (by first | assumption | decide) ?_
  refine z_eqL (L' := [(0, .ref o), (1, .long 4562600), (3, .long 531441), (5, .long 531441)]) (st' := [.long 8, .ref o]) rfl (by rw [show (4562600 / 531441 : Int64) = 8 from by decide]) ?_
  refine z_ldc2 hX q1746 dX4_spells_36 39 rfl ?_
  refine z_lrem hX dX4_spells_39 40 rfl (by first | assumption | decide) ?_
  refine z_eqL (L' := [(0, .ref o), (1, .long 4562600), (3, .long 531441), (5, .long 531441)]) (st' := [.long 8, .ref o]) rfl (by rw [show (8 - 8 / 27 * 27 : Int64) = 8 from by decide]) ?_
  refine z_l2i hX dX4_spells_40 41 rfl (w := 8) (by decide) ?_
  refine z_bipush hX dX4_spells_41 43 rfl zkb_96 ?_
  refine z_iadd hX dX4_spells_43 44 rfl (w := nI 104) (nI_add 8 96) ?_
  refine z_callVv hX cwX4_345 (met_X4_spellsByte hG hM.1 (nI 104) T (by omega) (mgs_speltMany _ _)) hM.1.o rfl rfl dX4_spells_44 47 rfl rfl rfl (Nat.le_of_ble_eq_true rfl) (by decide) ⟨Nat.zero_le _, Nat.zero_le _⟩ (fun G hhM => ?_)
  have hM := zMs.tr hM hhM
  have hM : zMs g G0 G o (ms_speltMany (ms_spelt M (x4_spellsByte_spelt (mt_spelt M) (nI 104) T)) (nI (T + 1))) := by simpa only [mg_spelt_speltMany, mc_spelt_speltMany, mm_spelt, mm_speltMany] using hM
  refine z_lload hX dX4_spells_47 49 rfl 3 rfl ?_
  refine z_ldc2 hX q1746 dX4_spells_49 52 rfl ?_
  refine z_ldiv hX dX4_spells_52 53 rfl (by first | assumption | decide) ?_
  refine z_eqL (L' := [(0, .ref o), (1, .long 4562600), (3, .long 531441), (5, .long 531441)]) (st' := [.long 19683]) rfl (by rw [show (531441 / 27 : Int64) = 19683 from by decide]) ?_
  refine z_lstore hX dX4_spells_53 55 rfl (Nat.le_of_ble_eq_true rfl) rfl (L' := [(0, .ref o), (1, .long 4562600), (3, .long 531441), (5, .long 19683)]) rfl ?_
  refine z_goto hX dX4_spells_55 (tgt := 24) (by decide) ?_
  refine z_lload hX dX4_spells_24 26 rfl 3 rfl ?_
  refine z_lconst hX dX4_spells_26 27 rfl (w := 0) rfl ?_
  refine z_lcmp hX dX4_spells_27 28 rfl ?_
  refine z_lcmp_le hX dX4_spells_28 31 rfl (tgt := 58) (by decide) (fun c7 => ?_) (fun c7 => ?_)
  · exact absurd (by decide) c7
  refine z_aload_n hX dX4_spells_31 32 rfl (i := 0) rfl 0 rfl ?_
  refine z_lload_n hX dX4_spells_32 33 rfl (i := 1) rfl 1 rfl ?_
  refine z_lload hX dX4_spells_33 35 rfl 3 rfl ?_
  refine z_ldiv hX dX4_spells_35 36 rfl (by first | assumption | decide) ?_
  refine z_eqL (L' := [(0, .ref o), (1, .long 4562600), (3, .long 531441), (5, .long 19683)]) (st' := [.long 231, .ref o]) rfl (by rw [show (4562600 / 19683 : Int64) = 231 from by decide]) ?_
  refine z_ldc2 hX q1746 dX4_spells_36 39 rfl ?_
  refine z_lrem hX dX4_spells_39 40 rfl (by first | assumption | decide) ?_
  refine z_eqL (L' := [(0, .ref o), (1, .long 4562600), (3, .long 531441), (5, .long 19683)]) (st' := [.long 15, .ref o]) rfl (by rw [show (231 - 231 / 27 * 27 : Int64) = 15 from by decide]) ?_
  refine z_l2i hX dX4_spells_40 41 rfl (w := 15) (by decide) ?_
  refine z_bipush hX dX4_spells_41 43 rfl zkb_96 ?_
  refine z_iadd hX dX4_spells_43 44 rfl (w := nI 111) (nI_add 15 96) ?_
  refine z_callVv hX cwX4_345 (met_X4_spellsByte hG hM.1 (nI 111) (T + 1) (by omega) (mgs_speltMany _ _)) hM.1.o rfl rfl dX4_spells_44 47 rfl rfl rfl (Nat.le_of_ble_eq_true rfl) (by decide) ⟨Nat.zero_le _, Nat.zero_le _⟩ (fun G hhM => ?_)
  have hM := zMs.tr hM hhM
  have hM : zMs g G0 G o (ms_speltMany (ms_spelt M (x4_spellsByte_spelt (x4_spellsByte_spelt (mt_spelt M) (nI 104) T) (nI 111) (T + 1))) (nI ((T + 1) + 1))) := by simpa only [mg_spelt_speltMany, mgs_spelt, mc_spelt_speltMany, mm_spelt, mm_speltMany] using hM
  refine z_lload hX dX4_spells_47 49 rfl 3 rfl ?_
  refine z_ldc2 hX q1746 dX4_spells_49 52 rfl ?_
  refine z_ldiv hX dX4_spells_52 53 rfl (by first | assumption | decide) ?_
  refine z_eqL (L' := [(0, .ref o), (1, .long 4562600), (3, .long 531441), (5, .long 19683)]) (st' := [.long 729]) rfl (by rw [show (19683 / 27 : Int64) = 729 from by decide]) ?_
  refine z_lstore hX dX4_spells_53 55 rfl (Nat.le_of_ble_eq_true rfl) rfl (L' := [(0, .ref o), (1, .long 4562600), (3, .long 531441), (5, .long 729)]) rfl ?_
  refine z_goto hX dX4_spells_55 (tgt := 24) (by decide) ?_
  refine z_lload hX dX4_spells_24 26 rfl 3 rfl ?_
  refine z_lconst hX dX4_spells_26 27 rfl (w := 0) rfl ?_
  refine z_lcmp hX dX4_spells_27 28 rfl ?_
  refine z_lcmp_le hX dX4_spells_28 31 rfl (tgt := 58) (by decide) (fun c8 => ?_) (fun c8 => ?_)
  · exact absurd (by decide) c8
  refine z_aload_n hX dX4_spells_31 32 rfl (i := 0) rfl 0 rfl ?_
  refine z_lload_n hX dX4_spells_32 33 rfl (i := 1) rfl 1 rfl ?_
  refine z_lload hX dX4_spells_33 35 rfl 3 rfl ?_
  refine z_ldiv hX dX4_spells_35 36 rfl (by first | assumption | decide) ?_
  refine z_eqL (L' := [(0, .ref o), (1, .long 4562600), (3, .long 531441), (5, .long 729)]) (st' := [.long 6258, .ref o]) rfl (by rw [show (4562600 / 729 : Int64) = 6258 from by decide]) ?_
  refine z_ldc2 hX q1746 dX4_spells_36 39 rfl ?_
  refine z_lrem hX dX4_spells_39 40 rfl (by first | assumption | decide) ?_
  refine z_eqL (L' := [(0, .ref o), (1, .long 4562600), (3, .long 531441), (5, .long 729)]) (st' := [.long 21, .ref o]) rfl (by rw [show (6258 - 6258 / 27 * 27 : Int64) = 21 from by decide]) ?_
  refine z_l2i hX dX4_spells_40 41 rfl (w := 21) (by decide) ?_
  refine z_bipush hX dX4_spells_41 43 rfl zkb_96 ?_
  refine z_iadd hX dX4_spells_43 44 rfl (w := nI 117) (nI_add 21 96) ?_
  refine z_callVv hX cwX4_345 (met_X4_spellsByte hG hM.1 (nI 117) ((T + 1) + 1) (by omega) (mgs_speltMany _ _)) hM.1.o rfl rfl dX4_spells_44 47 rfl rfl rfl (Nat.le_of_ble_eq_true rfl) (by decide) ⟨Nat.zero_le _, Nat.zero_le _⟩ (fun G hhM => ?_)
  have hM := zMs.tr hM hhM
  have hM : zMs g G0 G o (ms_speltMany (ms_spelt M (x4_spellsByte_spelt (x4_spellsByte_spelt (x4_spellsByte_spelt (mt_spelt M) (nI 104) T) (nI 111) (T + 1)) (nI 117) ((T + 1) + 1))) (nI (((T + 1) + 1) + 1))) := by simpa only [mg_spelt_speltMany, mgs_spelt, mc_spelt_speltMany, mm_spelt, mm_speltMany] using hM
  refine z_lload hX dX4_spells_47 49 rfl 3 rfl ?_
  refine z_ldc2 hX q1746 dX4_spells_49 52 rfl ?_
  refine z_ldiv hX dX4_spells_52 53 rfl (by first | assumption | decide) ?_
  refine z_eqL (L' := [(0, .ref o), (1, .long 4562600), (3, .long 531441), (5, .long 729)]) (st' := [.long 27]) rfl (by rw [show (729 / 27 : Int64) = 27 from by decide]) ?_
  refine z_lstore hX dX4_spells_53 55 rfl (Nat.le_of_ble_eq_true rfl) rfl (L' := [(0, .ref o), (1, .long 4562600), (3, .long 531441), (5, .long 27)]) rfl ?_
  refine z_goto hX dX4_spells_55 (tgt := 24) (by decide) ?_
  refine z_lload hX dX4_spells_24 26 rfl 3 rfl ?_
  refine z_lconst hX dX4_spells_26 27 rfl (w := 0) rfl ?_
  refine z_lcmp hX dX4_spells_27 28 rfl ?_
  refine z_lcmp_le hX dX4_spells_28 31 rfl (tgt := 58) (by decide) (fun c9 => ?_) (fun c9 => ?_)
  · exact absurd (by decide) c9
  refine z_aload_n hX dX4_spells_31 32 rfl (i := 0) rfl 0 rfl ?_
  refine z_lload_n hX dX4_spells_32 33 rfl (i := 1) rfl 1 rfl ?_
  refine z_lload hX dX4_spells_33 35 rfl 3 rfl ?_
  refine z_ldiv hX dX4_spells_35 36 rfl (by first | assumption | decide) ?_
  refine z_eqL (L' := [(0, .ref o), (1, .long 4562600), (3, .long 531441), (5, .long 27)]) (st' := [.long 168985, .ref o]) rfl (by rw [show (4562600 / 27 : Int64) = 168985 from by decide]) ?_
  refine z_ldc2 hX q1746 dX4_spells_36 39 rfl ?_
  refine z_lrem hX dX4_spells_39 40 rfl (by first | assumption | decide) ?_
  refine z_eqL (L' := [(0, .ref o), (1, .long 4562600), (3, .long 531441), (5, .long 27)]) (st' := [.long 19, .ref o]) rfl (by rw [show (168985 - 168985 / 27 * 27 : Int64) = 19 from by decide]) ?_
  refine z_l2i hX dX4_spells_40 41 rfl (w := 19) (by decide) ?_
  refine z_bipush hX dX4_spells_41 43 rfl zkb_96 ?_
  refine z_iadd hX dX4_spells_43 44 rfl (w := nI 115) (nI_add 19 96) ?_
  refine z_callVv hX cwX4_345 (met_X4_spellsByte hG hM.1 (nI 115) (((T + 1) + 1) + 1) (by omega) (mgs_speltMany _ _)) hM.1.o rfl rfl dX4_spells_44 47 rfl rfl rfl (Nat.le_of_ble_eq_true rfl) (by decide) ⟨Nat.zero_le _, Nat.zero_le _⟩ (fun G hhM => ?_)
  have hM := zMs.tr hM hhM
  have hM : zMs g G0 G o (ms_speltMany (ms_spelt M (x4_spellsByte_spelt (x4_spellsByte_spelt (x4_spellsByte_spelt (x4_spellsByte_spelt (mt_spelt M) (nI 104) T) (nI 111) (T + 1)) (nI 117) ((T + 1) + 1)) (nI 115) (((T + 1) + 1) + 1))) (nI ((((T + 1) + 1) + 1) + 1))) := by simpa only [mg_spelt_speltMany, mgs_spelt, mc_spelt_speltMany, mm_spelt, mm_speltMany] using hM
  refine z_lload hX dX4_spells_47 49 rfl 3 rfl ?_
  refine z_ldc2 hX q1746 dX4_spells_49 52 rfl ?_
  refine z_ldiv hX dX4_spells_52 53 rfl (by first | assumption | decide) ?_
  refine z_eqL (L' := [(0, .ref o), (1, .long 4562600), (3, .long 531441), (5, .long 27)]) (st' := [.long 1]) rfl (by rw [show (27 / 27 : Int64) = 1 from by decide]) ?_
  refine z_lstore hX dX4_spells_53 55 rfl (Nat.le_of_ble_eq_true rfl) rfl (L' := [(0, .ref o), (1, .long 4562600), (3, .long 531441), (5, .long 1)]) rfl ?_
  refine z_goto hX dX4_spells_55 (tgt := 24) (by decide) ?_
  refine z_lload hX dX4_spells_24 26 rfl 3 rfl ?_
  refine z_lconst hX dX4_spells_26 27 rfl (w := 0) rfl ?_
  refine z_lcmp hX dX4_spells_27 28 rfl ?_
  refine z_lcmp_le hX dX4_spells_28 31 rfl (tgt := 58) (by decide) (fun c10 => ?_) (fun c10 => ?_)
  · exact absurd (by decide) c10
  refine z_aload_n hX dX4_spells_31 32 rfl (i := 0) rfl 0 rfl ?_
  refine z_lload_n hX dX4_spells_32 33 rfl (i := 1) rfl 1 rfl ?_
  refine z_lload hX dX4_spells_33 35 rfl 3 rfl ?_
  refine z_ldiv hX dX4_spells_35 36 rfl (by first | assumption | decide) ?_
  refine z_eqL (L' := [(0, .ref o), (1, .long 4562600), (3, .long 531441), (5, .long 1)]) (st' := [.long 4562600, .ref o]) rfl (by rw [show (4562600 / 1 : Int64) = 4562600 from by decide]) ?_
  refine z_ldc2 hX q1746 dX4_spells_36 39 rfl ?_
  refine z_lrem hX dX4_spells_39 40 rfl (by first | assumption | decide) ?_
  refine z_eqL (L' := [(0, .ref o), (1, .long 4562600), (3, .long 531441), (5, .long 1)]) (st' := [.long 5, .ref o]) rfl (by rw [show (4562600 - 4562600 / 27 * 27 : Int64) = 5 from by decide]) ?_
  refine z_l2i hX dX4_spells_40 41 rfl (w := 5) (by decide) ?_
  refine z_bipush hX dX4_spells_41 43 rfl zkb_96 ?_
  refine z_iadd hX dX4_spells_43 44 rfl (w := nI 101) (nI_add 5 96) ?_
  refine z_callVv hX cwX4_345 (met_X4_spellsByte hG hM.1 (nI 101) ((((T + 1) + 1) + 1) + 1) (by omega) (mgs_speltMany _ _)) hM.1.o rfl rfl dX4_spells_44 47 rfl rfl rfl (Nat.le_of_ble_eq_true rfl) (by decide) ⟨Nat.zero_le _, Nat.zero_le _⟩ (fun G hhM => ?_)
  have hM := zMs.tr hM hhM
  have hM : zMs g G0 G o (ms_speltMany (ms_spelt M (x4_spellsByte_spelt (x4_spellsByte_spelt (x4_spellsByte_spelt (x4_spellsByte_spelt (x4_spellsByte_spelt (mt_spelt M) (nI 104) T) (nI 111) (T + 1)) (nI 117) ((T + 1) + 1)) (nI 115) (((T + 1) + 1) + 1)) (nI 101) ((((T + 1) + 1) + 1) + 1))) (nI (((((T + 1) + 1) + 1) + 1) + 1))) := by simpa only [mg_spelt_speltMany, mgs_spelt, mc_spelt_speltMany, mm_spelt, mm_speltMany] using hM
  refine z_lload hX dX4_spells_47 49 rfl 3 rfl ?_
  refine z_ldc2 hX q1746 dX4_spells_49 52 rfl ?_
  refine z_ldiv hX dX4_spells_52 53 rfl (by first | assumption | decide) ?_
  refine z_eqL (L' := [(0, .ref o), (1, .long 4562600), (3, .long 531441), (5, .long 1)]) (st' := [.long 0]) rfl (by rw [show (1 / 27 : Int64) = 0 from by decide]) ?_
  refine z_lstore hX dX4_spells_53 55 rfl (Nat.le_of_ble_eq_true rfl) rfl (L' := [(0, .ref o), (1, .long 4562600), (3, .long 531441), (5, .long 0)]) rfl ?_
  refine z_goto hX dX4_spells_55 (tgt := 24) (by decide) ?_
  refine z_lload hX dX4_spells_24 26 rfl 3 rfl ?_
  refine z_lconst hX dX4_spells_26 27 rfl (w := 0) rfl ?_
  refine z_lcmp hX dX4_spells_27 28 rfl ?_
  refine z_lcmp_le hX dX4_spells_28 31 rfl (tgt := 58) (by decide) (fun c11 => ?_) (fun c11 => ?_)
  rotate_left 1
  · exact absurd c11 (by decide)
  exact z_vret hX hQ (Nat.zero_le _) (Nat.zero_le _) rfl dX4_spells_58 ⟨rfl, hM⟩
def x4_spells_loan_spelt (m_spelt : Nat → Int32) (T : Nat) : Nat → Int32 := x4_spellsByte_spelt (x4_spellsByte_spelt (x4_spellsByte_spelt (x4_spellsByte_spelt (m_spelt) (nI 108) T) (nI 111) (T + 1)) (nI 97) ((T + 1) + 1)) (nI 110) (((T + 1) + 1) + 1)
set_option maxHeartbeats 4000000 in
theorem met_X4_spells_loan {g : Zg} (hG : zG g) {G0 : zHG} {o : Nat} {M : MT} (hM : zMo g G0 o M) (T : Nat)  (h_T : T < 1195) (hfT : mt_speltMany M = nI T)  : ZM g yX4_spells cX4_spells 7 none 2 0 0 [.ref o, .long 247172] G0 (fun r G' => r = none ∧ zMs g G0 G' o (ms_speltMany (ms_spelt M (x4_spells_loan_spelt (mt_spelt M) T)) (nI ((((T + 1) + 1) + 1) + 1)))) := by
  unfold x4_spells_loan_spelt
  refine ZM_mk hG (by decide) (Nat.le_of_ble_eq_true rfl) ?_
  intro X hX hname hQ
  obtain ⟨G, hGe⟩ : ∃ z, z = G0 := ⟨_, rfl⟩
  have hM : zMs g G0 G o M := by rw [hGe]; exact zMs.rf hM
  show ZW g X 0 0 G0 0 [(0, .ref o), (1, .long 247172)] []
  rw [← hGe]
  have hM : zMs g G0 G o (ms_speltMany M (nI T)) := by simpa only [me2_speltMany, hfT] using hM
  refine z_lconst hX dX4_spells_0 1 rfl (w := 1) rfl ?_
  refine z_lstore_n hX dX4_spells_1 2 rfl (i := 3) rfl (Nat.le_of_ble_eq_true rfl) rfl (L' := [(0, .ref o), (1, .long 247172), (3, .long 1)]) rfl ?_
  refine z_ldc2 hX q1746 dX4_spells_2 5 rfl ?_
  refine z_lload_n hX dX4_spells_5 6 rfl (i := 3) rfl 2 rfl ?_
  refine z_lmul hX dX4_spells_6 7 rfl ?_
  refine z_eqL (L' := [(0, .ref o), (1, .long 247172), (3, .long 1)]) (st' := [.long 27]) rfl (by rw [show (27 * 1 : Int64) = 27 from by decide]) ?_
  refine z_lload_n hX dX4_spells_7 8 rfl (i := 1) rfl 1 rfl ?_
  refine z_lcmp hX dX4_spells_8 9 rfl ?_
  refine z_lcmp_gt hX dX4_spells_9 12 rfl (tgt := 21) (by decide) (fun c1 => ?_) (fun c1 => ?_)
  · exact absurd c1 (by decide)
  refine z_lload_n hX dX4_spells_12 13 rfl (i := 3) rfl 2 rfl ?_
  refine z_ldc2 hX q1746 dX4_spells_13 16 rfl ?_
  refine z_lmul hX dX4_spells_16 17 rfl ?_
  refine z_eqL (L' := [(0, .ref o), (1, .long 247172), (3, .long 1)]) (st' := [.long 27]) rfl (by rw [show (1 * 27 : Int64) = 27 from by decide]) ?_
  refine z_lstore_n hX dX4_spells_17 18 rfl (i := 3) rfl (Nat.le_of_ble_eq_true rfl) rfl (L' := [(0, .ref o), (1, .long 247172), (3, .long 27)]) rfl ?_
  refine z_goto hX dX4_spells_18 (tgt := 2) (by decide) ?_
  refine z_ldc2 hX q1746 dX4_spells_2 5 rfl ?_
  refine z_lload_n hX dX4_spells_5 6 rfl (i := 3) rfl 2 rfl ?_
  refine z_lmul hX dX4_spells_6 7 rfl ?_
  refine z_eqL (L' := [(0, .ref o), (1, .long 247172), (3, .long 27)]) (st' := [.long 729]) rfl (by rw [show (27 * 27 : Int64) = 729 from by decide]) ?_
  refine z_lload_n hX dX4_spells_7 8 rfl (i := 1) rfl 1 rfl ?_
  refine z_lcmp hX dX4_spells_8 9 rfl ?_
  refine z_lcmp_gt hX dX4_spells_9 12 rfl (tgt := 21) (by decide) (fun c2 => ?_) (fun c2 => ?_)
  · exact absurd c2 (by decide)
  refine z_lload_n hX dX4_spells_12 13 rfl (i := 3) rfl 2 rfl ?_
  refine z_ldc2 hX q1746 dX4_spells_13 16 rfl ?_
  refine z_lmul hX dX4_spells_16 17 rfl ?_
  refine z_eqL (L' := [(0, .ref o), (1, .long 247172), (3, .long 27)]) (st' := [.long 729]) rfl (by rw [show (27 * 27 : Int64) = 729 from by decide]) ?_
  refine z_lstore_n hX dX4_spells_17 18 rfl (i := 3) rfl (Nat.le_of_ble_eq_true rfl) rfl (L' := [(0, .ref o), (1, .long 247172), (3, .long 729)]) rfl ?_
  refine z_goto hX dX4_spells_18 (tgt := 2) (by decide) ?_
  refine z_ldc2 hX q1746 dX4_spells_2 5 rfl ?_
  refine z_lload_n hX dX4_spells_5 6 rfl (i := 3) rfl 2 rfl ?_
  refine z_lmul hX dX4_spells_6 7 rfl ?_
  refine z_eqL (L' := [(0, .ref o), (1, .long 247172), (3, .long 729)]) (st' := [.long 19683]) rfl (by rw [show (27 * 729 : Int64) = 19683 from by decide]) ?_
  refine z_lload_n hX dX4_spells_7 8 rfl (i := 1) rfl 1 rfl ?_
  refine z_lcmp hX dX4_spells_8 9 rfl ?_
  refine z_lcmp_gt hX dX4_spells_9 12 rfl (tgt := 21) (by decide) (fun c3 => ?_) (fun c3 => ?_)
  · exact absurd c3 (by decide)
  refine z_lload_n hX dX4_spells_12 13 rfl (i := 3) rfl 2 rfl ?_
  refine z_ldc2 hX q1746 dX4_spells_13 16 rfl ?_
  refine z_lmul hX dX4_spells_16 17 rfl ?_
  refine z_eqL (L' := [(0, .ref o), (1, .long 247172), (3, .long 729)]) (st' := [.long 19683]) rfl (by rw [show (729 * 27 : Int64) = 19683 from by decide]) ?_
  refine z_lstore_n hX dX4_spells_17 18 rfl (i := 3) rfl (Nat.le_of_ble_eq_true rfl) rfl (L' := [(0, .ref o), (1, .long 247172), (3, .long 19683)]) rfl ?_
  refine z_goto hX dX4_spells_18 (tgt := 2) (by decide) ?_
  refine z_ldc2 hX q1746 dX4_spells_2 5 rfl ?_
  refine z_lload_n hX dX4_spells_5 6 rfl (i := 3) rfl 2 rfl ?_
  refine z_lmul hX dX4_spells_6 7 rfl ?_
  refine z_eqL (L' := [(0, .ref o), (1, .long 247172), (3, .long 19683)]) (st' := [.long 531441]) rfl (by rw [show (27 * 19683 : Int64) = 531441 from by decide]) ?_
  refine z_lload_n hX dX4_spells_7 8 rfl (i := 1) rfl 1 rfl ?_
  refine z_lcmp hX dX4_spells_8 9 rfl ?_
  refine z_lcmp_gt hX dX4_spells_9 12 rfl (tgt := 21) (by decide) (fun c4 => ?_) (fun c4 => ?_)
  rotate_left 1
  · exact absurd (by decide) c4
  refine z_lload_n hX dX4_spells_21 22 rfl (i := 3) rfl 2 rfl ?_
  refine z_lstore hX dX4_spells_22 24 rfl (Nat.le_of_ble_eq_true rfl) rfl (L' := [(0, .ref o), (1, .long 247172), (3, .long 19683), (5, .long 19683)]) rfl ?_
  refine z_lload hX dX4_spells_24 26 rfl 3 rfl ?_
  refine z_lconst hX dX4_spells_26 27 rfl (w := 0) rfl ?_
  refine z_lcmp hX dX4_spells_27 28 rfl ?_
  refine z_lcmp_le hX dX4_spells_28 31 rfl (tgt := 58) (by decide) (fun c5 => ?_) (fun c5 => ?_)
  · exact absurd (by decide) c5
  refine z_aload_n hX dX4_spells_31 32 rfl (i := 0) rfl 0 rfl ?_
  refine z_lload_n hX dX4_spells_32 33 rfl (i := 1) rfl 1 rfl ?_
  refine z_lload hX dX4_spells_33 35 rfl 3 rfl ?_
  refine z_ldiv hX dX4_spells_35 36 rfl (by first | assumption | decide) ?_
  refine z_eqL (L' := [(0, .ref o), (1, .long 247172), (3, .long 19683), (5, .long 19683)]) (st' := [.long 12, .ref o]) rfl (by rw [show (247172 / 19683 : Int64) = 12 from by decide]) ?_
  refine z_ldc2 hX q1746 dX4_spells_36 39 rfl ?_
  refine z_lrem hX dX4_spells_39 40 rfl (by first | assumption | decide) ?_
  refine z_eqL (L' := [(0, .ref o), (1, .long 247172), (3, .long 19683), (5, .long 19683)]) (st' := [.long 12, .ref o]) rfl (by rw [show (12 - 12 / 27 * 27 : Int64) = 12 from by decide]) ?_
  refine z_l2i hX dX4_spells_40 41 rfl (w := 12) (by decide) ?_
  refine z_bipush hX dX4_spells_41 43 rfl zkb_96 ?_
  refine z_iadd hX dX4_spells_43 44 rfl (w := nI 108) (nI_add 12 96) ?_
  refine z_callVv hX cwX4_345 (met_X4_spellsByte hG hM.1 (nI 108) T (by omega) (mgs_speltMany _ _)) hM.1.o rfl rfl dX4_spells_44 47 rfl rfl rfl (Nat.le_of_ble_eq_true rfl) (by decide) ⟨Nat.zero_le _, Nat.zero_le _⟩ (fun G hhM => ?_)
  have hM := zMs.tr hM hhM
  have hM : zMs g G0 G o (ms_speltMany (ms_spelt M (x4_spellsByte_spelt (mt_spelt M) (nI 108) T)) (nI (T + 1))) := by simpa only [mg_spelt_speltMany, mc_spelt_speltMany, mm_spelt, mm_speltMany] using hM
  refine z_lload hX dX4_spells_47 49 rfl 3 rfl ?_
  refine z_ldc2 hX q1746 dX4_spells_49 52 rfl ?_
  refine z_ldiv hX dX4_spells_52 53 rfl (by first | assumption | decide) ?_
  refine z_eqL (L' := [(0, .ref o), (1, .long 247172), (3, .long 19683), (5, .long 19683)]) (st' := [.long 729]) rfl (by rw [show (19683 / 27 : Int64) = 729 from by decide]) ?_
  refine z_lstore hX dX4_spells_53 55 rfl (Nat.le_of_ble_eq_true rfl) rfl (L' := [(0, .ref o), (1, .long 247172), (3, .long 19683), (5, .long 729)]) rfl ?_
  refine z_goto hX dX4_spells_55 (tgt := 24) (by decide) ?_
  refine z_lload hX dX4_spells_24 26 rfl 3 rfl ?_
  refine z_lconst hX dX4_spells_26 27 rfl (w := 0) rfl ?_
  refine z_lcmp hX dX4_spells_27 28 rfl ?_
  refine z_lcmp_le hX dX4_spells_28 31 rfl (tgt := 58) (by decide) (fun c6 => ?_) (fun c6 => ?_)
  · exact absurd (by decide) c6
  refine z_aload_n hX dX4_spells_31 32 rfl (i := 0) rfl 0 rfl ?_
  refine z_lload_n hX dX4_spells_32 33 rfl (i := 1) rfl 1 rfl ?_
  refine z_lload hX dX4_spells_33 35 rfl 3 rfl ?_
  refine z_ldiv hX dX4_spells_35 36 rfl (by first | assumption | decide) ?_
  refine z_eqL (L' := [(0, .ref o), (1, .long 247172), (3, .long 19683), (5, .long 729)]) (st' := [.long 339, .ref o]) rfl (by rw [show (247172 / 729 : Int64) = 339 from by decide]) ?_
  refine z_ldc2 hX q1746 dX4_spells_36 39 rfl ?_
  refine z_lrem hX dX4_spells_39 40 rfl (by first | assumption | decide) ?_
  refine z_eqL (L' := [(0, .ref o), (1, .long 247172), (3, .long 19683), (5, .long 729)]) (st' := [.long 15, .ref o]) rfl (by rw [show (339 - 339 / 27 * 27 : Int64) = 15 from by decide]) ?_
  refine z_l2i hX dX4_spells_40 41 rfl (w := 15) (by decide) ?_
  refine z_bipush hX dX4_spells_41 43 rfl zkb_96 ?_
  refine z_iadd hX dX4_spells_43 44 rfl (w := nI 111) (nI_add 15 96) ?_
  refine z_callVv hX cwX4_345 (met_X4_spellsByte hG hM.1 (nI 111) (T + 1) (by omega) (mgs_speltMany _ _)) hM.1.o rfl rfl dX4_spells_44 47 rfl rfl rfl (Nat.le_of_ble_eq_true rfl) (by decide) ⟨Nat.zero_le _, Nat.zero_le _⟩ (fun G hhM => ?_)
  have hM := zMs.tr hM hhM
  have hM : zMs g G0 G o (ms_speltMany (ms_spelt M (x4_spellsByte_spelt (x4_spellsByte_spelt (mt_spelt M) (nI 108) T) (nI 111) (T + 1))) (nI ((T + 1) + 1))) := by simpa only [mg_spelt_speltMany, mgs_spelt, mc_spelt_speltMany, mm_spelt, mm_speltMany] using hM
  refine z_lload hX dX4_spells_47 49 rfl 3 rfl ?_
  refine z_ldc2 hX q1746 dX4_spells_49 52 rfl ?_
  refine z_ldiv hX dX4_spells_52 53 rfl (by first | assumption | decide) ?_
  refine z_eqL (L' := [(0, .ref o), (1, .long 247172), (3, .long 19683), (5, .long 729)]) (st' := [.long 27]) rfl (by rw [show (729 / 27 : Int64) = 27 from by decide]) ?_
  refine z_lstore hX dX4_spells_53 55 rfl (Nat.le_of_ble_eq_true rfl) rfl (L' := [(0, .ref o), (1, .long 247172), (3, .long 19683), (5, .long 27)]) rfl ?_
  refine z_goto hX dX4_spells_55 (tgt := 24) (by decide) ?_
  refine z_lload hX dX4_spells_24 26 rfl 3 rfl ?_
  refine z_lconst hX dX4_spells_26 27 rfl (w := 0) rfl ?_
  refine z_lcmp hX dX4_spells_27 28 rfl ?_
  refine z_lcmp_le hX dX4_spells_28 31 rfl (tgt := 58) (by decide) (fun c7 => ?_) (fun c7 => ?_)
  · exact absurd (by decide) c7
  refine z_aload_n hX dX4_spells_31 32 rfl (i := 0) rfl 0 rfl ?_
  refine z_lload_n hX dX4_spells_32 33 rfl (i := 1) rfl 1 rfl ?_
  refine z_lload hX dX4_spells_33 35 rfl 3 rfl ?_
  refine z_ldiv hX dX4_spells_35 36 rfl (by first | assumption | decide) ?_
  refine z_eqL (L' := [(0, .ref o), (1, .long 247172), (3, .long 19683), (5, .long 27)]) (st' := [.long 9154, .ref o]) rfl (by rw [show (247172 / 27 : Int64) = 9154 from by decide]) ?_
  refine z_ldc2 hX q1746 dX4_spells_36 39 rfl ?_
  refine z_lrem hX dX4_spells_39 40 rfl (by first | assumption | decide) ?_
  refine z_eqL (L' := [(0, .ref o), (1, .long 247172), (3, .long 19683), (5, .long 27)]) (st' := [.long 1, .ref o]) rfl (by rw [show (9154 - 9154 / 27 * 27 : Int64) = 1 from by decide]) ?_
  refine z_l2i hX dX4_spells_40 41 rfl (w := 1) (by decide) ?_
  refine z_bipush hX dX4_spells_41 43 rfl zkb_96 ?_
  refine z_iadd hX dX4_spells_43 44 rfl (w := nI 97) (nI_add 1 96) ?_
  refine z_callVv hX cwX4_345 (met_X4_spellsByte hG hM.1 (nI 97) ((T + 1) + 1) (by omega) (mgs_speltMany _ _)) hM.1.o rfl rfl dX4_spells_44 47 rfl rfl rfl (Nat.le_of_ble_eq_true rfl) (by decide) ⟨Nat.zero_le _, Nat.zero_le _⟩ (fun G hhM => ?_)
  have hM := zMs.tr hM hhM
  have hM : zMs g G0 G o (ms_speltMany (ms_spelt M (x4_spellsByte_spelt (x4_spellsByte_spelt (x4_spellsByte_spelt (mt_spelt M) (nI 108) T) (nI 111) (T + 1)) (nI 97) ((T + 1) + 1))) (nI (((T + 1) + 1) + 1))) := by simpa only [mg_spelt_speltMany, mgs_spelt, mc_spelt_speltMany, mm_spelt, mm_speltMany] using hM
  refine z_lload hX dX4_spells_47 49 rfl 3 rfl ?_
  refine z_ldc2 hX q1746 dX4_spells_49 52 rfl ?_
  refine z_ldiv hX dX4_spells_52 53 rfl (by first | assumption | decide) ?_
  refine z_eqL (L' := [(0, .ref o), (1, .long 247172), (3, .long 19683), (5, .long 27)]) (st' := [.long 1]) rfl (by rw [show (27 / 27 : Int64) = 1 from by decide]) ?_
  refine z_lstore hX dX4_spells_53 55 rfl (Nat.le_of_ble_eq_true rfl) rfl (L' := [(0, .ref o), (1, .long 247172), (3, .long 19683), (5, .long 1)]) rfl ?_
  refine z_goto hX dX4_spells_55 (tgt := 24) (by decide) ?_
  refine z_lload hX dX4_spells_24 26 rfl 3 rfl ?_
  refine z_lconst hX dX4_spells_26 27 rfl (w := 0) rfl ?_
  refine z_lcmp hX dX4_spells_27 28 rfl ?_
  refine z_lcmp_le hX dX4_spells_28 31 rfl (tgt := 58) (by decide) (fun c8 => ?_) (fun c8 => ?_)
  · exact absurd (by decide) c8
  refine z_aload_n hX dX4_spells_31 32 rfl (i := 0) rfl 0 rfl ?_
  refine z_lload_n hX dX4_spells_32 33 rfl (i := 1) rfl 1 rfl ?_
  refine z_lload hX dX4_spells_33 35 rfl 3 rfl ?_
  refine z_ldiv hX dX4_spells_35 36 rfl (by first | assumption | decide) ?_
  refine z_eqL (L' := [(0, .ref o), (1, .long 247172), (3, .long 19683), (5, .long 1)]) (st' := [.long 247172, .ref o]) rfl (by rw [show (247172 / 1 : Int64) = 247172 from by decide]) ?_
  refine z_ldc2 hX q1746 dX4_spells_36 39 rfl ?_
  refine z_lrem hX dX4_spells_39 40 rfl (by first | assumption | decide) ?_
  refine z_eqL (L' := [(0, .ref o), (1, .long 247172), (3, .long 19683), (5, .long 1)]) (st' := [.long 14, .ref o]) rfl (by rw [show (247172 - 247172 / 27 * 27 : Int64) = 14 from by decide]) ?_
  refine z_l2i hX dX4_spells_40 41 rfl (w := 14) (by decide) ?_
  refine z_bipush hX dX4_spells_41 43 rfl zkb_96 ?_
  refine z_iadd hX dX4_spells_43 44 rfl (w := nI 110) (nI_add 14 96) ?_
  refine z_callVv hX cwX4_345 (met_X4_spellsByte hG hM.1 (nI 110) (((T + 1) + 1) + 1) (by omega) (mgs_speltMany _ _)) hM.1.o rfl rfl dX4_spells_44 47 rfl rfl rfl (Nat.le_of_ble_eq_true rfl) (by decide) ⟨Nat.zero_le _, Nat.zero_le _⟩ (fun G hhM => ?_)
  have hM := zMs.tr hM hhM
  have hM : zMs g G0 G o (ms_speltMany (ms_spelt M (x4_spellsByte_spelt (x4_spellsByte_spelt (x4_spellsByte_spelt (x4_spellsByte_spelt (mt_spelt M) (nI 108) T) (nI 111) (T + 1)) (nI 97) ((T + 1) + 1)) (nI 110) (((T + 1) + 1) + 1))) (nI ((((T + 1) + 1) + 1) + 1))) := by simpa only [mg_spelt_speltMany, mgs_spelt, mc_spelt_speltMany, mm_spelt, mm_speltMany] using hM
  refine z_lload hX dX4_spells_47 49 rfl 3 rfl ?_
  refine z_ldc2 hX q1746 dX4_spells_49 52 rfl ?_
  refine z_ldiv hX dX4_spells_52 53 rfl (by first | assumption | decide) ?_
  refine z_eqL (L' := [(0, .ref o), (1, .long 247172), (3, .long 19683), (5, .long 1)]) (st' := [.long 0]) rfl (by rw [show (1 / 27 : Int64) = 0 from by decide]) ?_
  refine z_lstore hX dX4_spells_53 55 rfl (Nat.le_of_ble_eq_true rfl) rfl (L' := [(0, .ref o), (1, .long 247172), (3, .long 19683), (5, .long 0)]) rfl ?_
  refine z_goto hX dX4_spells_55 (tgt := 24) (by decide) ?_
  refine z_lload hX dX4_spells_24 26 rfl 3 rfl ?_
  refine z_lconst hX dX4_spells_26 27 rfl (w := 0) rfl ?_
  refine z_lcmp hX dX4_spells_27 28 rfl ?_
  refine z_lcmp_le hX dX4_spells_28 31 rfl (tgt := 58) (by decide) (fun c9 => ?_) (fun c9 => ?_)
  rotate_left 1
  · exact absurd c9 (by decide)
  exact z_vret hX hQ (Nat.zero_le _) (Nat.zero_le _) rfl dX4_spells_58 ⟨rfl, hM⟩
def x4_spells_cap_spelt (m_spelt : Nat → Int32) (T : Nat) : Nat → Int32 := x4_spellsByte_spelt (x4_spellsByte_spelt (x4_spellsByte_spelt (m_spelt) (nI 99) T) (nI 97) (T + 1)) (nI 112) ((T + 1) + 1)
set_option maxHeartbeats 4000000 in
theorem met_X4_spells_cap {g : Zg} (hG : zG g) {G0 : zHG} {o : Nat} {M : MT} (hM : zMo g G0 o M) (T : Nat)  (h_T : T < 1195) (hfT : mt_speltMany M = nI T)  : ZM g yX4_spells cX4_spells 7 none 2 0 0 [.ref o, .long 2230] G0 (fun r G' => r = none ∧ zMs g G0 G' o (ms_speltMany (ms_spelt M (x4_spells_cap_spelt (mt_spelt M) T)) (nI (((T + 1) + 1) + 1)))) := by
  unfold x4_spells_cap_spelt
  refine ZM_mk hG (by decide) (Nat.le_of_ble_eq_true rfl) ?_
  intro X hX hname hQ
  obtain ⟨G, hGe⟩ : ∃ z, z = G0 := ⟨_, rfl⟩
  have hM : zMs g G0 G o M := by rw [hGe]; exact zMs.rf hM
  show ZW g X 0 0 G0 0 [(0, .ref o), (1, .long 2230)] []
  rw [← hGe]
  have hM : zMs g G0 G o (ms_speltMany M (nI T)) := by simpa only [me2_speltMany, hfT] using hM
  refine z_lconst hX dX4_spells_0 1 rfl (w := 1) rfl ?_
  refine z_lstore_n hX dX4_spells_1 2 rfl (i := 3) rfl (Nat.le_of_ble_eq_true rfl) rfl (L' := [(0, .ref o), (1, .long 2230), (3, .long 1)]) rfl ?_
  refine z_ldc2 hX q1746 dX4_spells_2 5 rfl ?_
  refine z_lload_n hX dX4_spells_5 6 rfl (i := 3) rfl 2 rfl ?_
  refine z_lmul hX dX4_spells_6 7 rfl ?_
  refine z_eqL (L' := [(0, .ref o), (1, .long 2230), (3, .long 1)]) (st' := [.long 27]) rfl (by rw [show (27 * 1 : Int64) = 27 from by decide]) ?_
  refine z_lload_n hX dX4_spells_7 8 rfl (i := 1) rfl 1 rfl ?_
  refine z_lcmp hX dX4_spells_8 9 rfl ?_
  refine z_lcmp_gt hX dX4_spells_9 12 rfl (tgt := 21) (by decide) (fun c1 => ?_) (fun c1 => ?_)
  · exact absurd c1 (by decide)
  refine z_lload_n hX dX4_spells_12 13 rfl (i := 3) rfl 2 rfl ?_
  refine z_ldc2 hX q1746 dX4_spells_13 16 rfl ?_
  refine z_lmul hX dX4_spells_16 17 rfl ?_
  refine z_eqL (L' := [(0, .ref o), (1, .long 2230), (3, .long 1)]) (st' := [.long 27]) rfl (by rw [show (1 * 27 : Int64) = 27 from by decide]) ?_
  refine z_lstore_n hX dX4_spells_17 18 rfl (i := 3) rfl (Nat.le_of_ble_eq_true rfl) rfl (L' := [(0, .ref o), (1, .long 2230), (3, .long 27)]) rfl ?_
  refine z_goto hX dX4_spells_18 (tgt := 2) (by decide) ?_
  refine z_ldc2 hX q1746 dX4_spells_2 5 rfl ?_
  refine z_lload_n hX dX4_spells_5 6 rfl (i := 3) rfl 2 rfl ?_
  refine z_lmul hX dX4_spells_6 7 rfl ?_
  refine z_eqL (L' := [(0, .ref o), (1, .long 2230), (3, .long 27)]) (st' := [.long 729]) rfl (by rw [show (27 * 27 : Int64) = 729 from by decide]) ?_
  refine z_lload_n hX dX4_spells_7 8 rfl (i := 1) rfl 1 rfl ?_
  refine z_lcmp hX dX4_spells_8 9 rfl ?_
  refine z_lcmp_gt hX dX4_spells_9 12 rfl (tgt := 21) (by decide) (fun c2 => ?_) (fun c2 => ?_)
  · exact absurd c2 (by decide)
  refine z_lload_n hX dX4_spells_12 13 rfl (i := 3) rfl 2 rfl ?_
  refine z_ldc2 hX q1746 dX4_spells_13 16 rfl ?_
  refine z_lmul hX dX4_spells_16 17 rfl ?_
  refine z_eqL (L' := [(0, .ref o), (1, .long 2230), (3, .long 27)]) (st' := [.long 729]) rfl (by rw [show (27 * 27 : Int64) = 729 from by decide]) ?_
  refine z_lstore_n hX dX4_spells_17 18 rfl (i := 3) rfl (Nat.le_of_ble_eq_true rfl) rfl (L' := [(0, .ref o), (1, .long 2230), (3, .long 729)]) rfl ?_
  refine z_goto hX dX4_spells_18 (tgt := 2) (by decide) ?_
  refine z_ldc2 hX q1746 dX4_spells_2 5 rfl ?_
  refine z_lload_n hX dX4_spells_5 6 rfl (i := 3) rfl 2 rfl ?_
  refine z_lmul hX dX4_spells_6 7 rfl ?_
  refine z_eqL (L' := [(0, .ref o), (1, .long 2230), (3, .long 729)]) (st' := [.long 19683]) rfl (by rw [show (27 * 729 : Int64) = 19683 from by decide]) ?_
  refine z_lload_n hX dX4_spells_7 8 rfl (i := 1) rfl 1 rfl ?_
  refine z_lcmp hX dX4_spells_8 9 rfl ?_
  refine z_lcmp_gt hX dX4_spells_9 12 rfl (tgt := 21) (by decide) (fun c3 => ?_) (fun c3 => ?_)
  rotate_left 1
  · exact absurd (by decide) c3
  refine z_lload_n hX dX4_spells_21 22 rfl (i := 3) rfl 2 rfl ?_
  refine z_lstore hX dX4_spells_22 24 rfl (Nat.le_of_ble_eq_true rfl) rfl (L' := [(0, .ref o), (1, .long 2230), (3, .long 729), (5, .long 729)]) rfl ?_
  refine z_lload hX dX4_spells_24 26 rfl 3 rfl ?_
  refine z_lconst hX dX4_spells_26 27 rfl (w := 0) rfl ?_
  refine z_lcmp hX dX4_spells_27 28 rfl ?_
  refine z_lcmp_le hX dX4_spells_28 31 rfl (tgt := 58) (by decide) (fun c4 => ?_) (fun c4 => ?_)
  · exact absurd (by decide) c4
  refine z_aload_n hX dX4_spells_31 32 rfl (i := 0) rfl 0 rfl ?_
  refine z_lload_n hX dX4_spells_32 33 rfl (i := 1) rfl 1 rfl ?_
  refine z_lload hX dX4_spells_33 35 rfl 3 rfl ?_
  refine z_ldiv hX dX4_spells_35 36 rfl (by first | assumption | decide) ?_
  refine z_eqL (L' := [(0, .ref o), (1, .long 2230), (3, .long 729), (5, .long 729)]) (st' := [.long 3, .ref o]) rfl (by rw [show (2230 / 729 : Int64) = 3 from by decide]) ?_
  refine z_ldc2 hX q1746 dX4_spells_36 39 rfl ?_
  refine z_lrem hX dX4_spells_39 40 rfl (by first | assumption | decide) ?_
  refine z_eqL (L' := [(0, .ref o), (1, .long 2230), (3, .long 729), (5, .long 729)]) (st' := [.long 3, .ref o]) rfl (by rw [show (3 - 3 / 27 * 27 : Int64) = 3 from by decide]) ?_
  refine z_l2i hX dX4_spells_40 41 rfl (w := 3) (by decide) ?_
  refine z_bipush hX dX4_spells_41 43 rfl zkb_96 ?_
  refine z_iadd hX dX4_spells_43 44 rfl (w := nI 99) (nI_add 3 96) ?_
  refine z_callVv hX cwX4_345 (met_X4_spellsByte hG hM.1 (nI 99) T (by omega) (mgs_speltMany _ _)) hM.1.o rfl rfl dX4_spells_44 47 rfl rfl rfl (Nat.le_of_ble_eq_true rfl) (by decide) ⟨Nat.zero_le _, Nat.zero_le _⟩ (fun G hhM => ?_)
  have hM := zMs.tr hM hhM
  have hM : zMs g G0 G o (ms_speltMany (ms_spelt M (x4_spellsByte_spelt (mt_spelt M) (nI 99) T)) (nI (T + 1))) := by simpa only [mg_spelt_speltMany, mc_spelt_speltMany, mm_spelt, mm_speltMany] using hM
  refine z_lload hX dX4_spells_47 49 rfl 3 rfl ?_
  refine z_ldc2 hX q1746 dX4_spells_49 52 rfl ?_
  refine z_ldiv hX dX4_spells_52 53 rfl (by first | assumption | decide) ?_
  refine z_eqL (L' := [(0, .ref o), (1, .long 2230), (3, .long 729), (5, .long 729)]) (st' := [.long 27]) rfl (by rw [show (729 / 27 : Int64) = 27 from by decide]) ?_
  refine z_lstore hX dX4_spells_53 55 rfl (Nat.le_of_ble_eq_true rfl) rfl (L' := [(0, .ref o), (1, .long 2230), (3, .long 729), (5, .long 27)]) rfl ?_
  refine z_goto hX dX4_spells_55 (tgt := 24) (by decide) ?_
  refine z_lload hX dX4_spells_24 26 rfl 3 rfl ?_
  refine z_lconst hX dX4_spells_26 27 rfl (w := 0) rfl ?_
  refine z_lcmp hX dX4_spells_27 28 rfl ?_
  refine z_lcmp_le hX dX4_spells_28 31 rfl (tgt := 58) (by decide) (fun c5 => ?_) (fun c5 => ?_)
  · exact absurd (by decide) c5
  refine z_aload_n hX dX4_spells_31 32 rfl (i := 0) rfl 0 rfl ?_
  refine z_lload_n hX dX4_spells_32 33 rfl (i := 1) rfl 1 rfl ?_
  refine z_lload hX dX4_spells_33 35 rfl 3 rfl ?_
  refine z_ldiv hX dX4_spells_35 36 rfl (by first | assumption | decide) ?_
  refine z_eqL (L' := [(0, .ref o), (1, .long 2230), (3, .long 729), (5, .long 27)]) (st' := [.long 82, .ref o]) rfl (by rw [show (2230 / 27 : Int64) = 82 from by decide]) ?_
  refine z_ldc2 hX q1746 dX4_spells_36 39 rfl ?_
  refine z_lrem hX dX4_spells_39 40 rfl (by first | assumption | decide) ?_
  refine z_eqL (L' := [(0, .ref o), (1, .long 2230), (3, .long 729), (5, .long 27)]) (st' := [.long 1, .ref o]) rfl (by rw [show (82 - 82 / 27 * 27 : Int64) = 1 from by decide]) ?_
  refine z_l2i hX dX4_spells_40 41 rfl (w := 1) (by decide) ?_
  refine z_bipush hX dX4_spells_41 43 rfl zkb_96 ?_
  refine z_iadd hX dX4_spells_43 44 rfl (w := nI 97) (nI_add 1 96) ?_
  refine z_callVv hX cwX4_345 (met_X4_spellsByte hG hM.1 (nI 97) (T + 1) (by omega) (mgs_speltMany _ _)) hM.1.o rfl rfl dX4_spells_44 47 rfl rfl rfl (Nat.le_of_ble_eq_true rfl) (by decide) ⟨Nat.zero_le _, Nat.zero_le _⟩ (fun G hhM => ?_)
  have hM := zMs.tr hM hhM
  have hM : zMs g G0 G o (ms_speltMany (ms_spelt M (x4_spellsByte_spelt (x4_spellsByte_spelt (mt_spelt M) (nI 99) T) (nI 97) (T + 1))) (nI ((T + 1) + 1))) := by simpa only [mg_spelt_speltMany, mgs_spelt, mc_spelt_speltMany, mm_spelt, mm_speltMany] using hM
  refine z_lload hX dX4_spells_47 49 rfl 3 rfl ?_
  refine z_ldc2 hX q1746 dX4_spells_49 52 rfl ?_
  refine z_ldiv hX dX4_spells_52 53 rfl (by first | assumption | decide) ?_
  refine z_eqL (L' := [(0, .ref o), (1, .long 2230), (3, .long 729), (5, .long 27)]) (st' := [.long 1]) rfl (by rw [show (27 / 27 : Int64) = 1 from by decide]) ?_
  refine z_lstore hX dX4_spells_53 55 rfl (Nat.le_of_ble_eq_true rfl) rfl (L' := [(0, .ref o), (1, .long 2230), (3, .long 729), (5, .long 1)]) rfl ?_
  refine z_goto hX dX4_spells_55 (tgt := 24) (by decide) ?_
  refine z_lload hX dX4_spells_24 26 rfl 3 rfl ?_
  refine z_lconst hX dX4_spells_26 27 rfl (w := 0) rfl ?_
  refine z_lcmp hX dX4_spells_27 28 rfl ?_
  refine z_lcmp_le hX dX4_spells_28 31 rfl (tgt := 58) (by decide) (fun c6 => ?_) (fun c6 => ?_)
  · exact absurd (by decide) c6
  refine z_aload_n hX dX4_spells_31 32 rfl (i := 0) rfl 0 rfl ?_
  refine z_lload_n hX dX4_spells_32 33 rfl (i := 1) rfl 1 rfl ?_
  refine z_lload hX dX4_spells_33 35 rfl 3 rfl ?_
  refine z_ldiv hX dX4_spells_35 36 rfl (by first | assumption | decide) ?_
  refine z_eqL (L' := [(0, .ref o), (1, .long 2230), (3, .long 729), (5, .long 1)]) (st' := [.long 2230, .ref o]) rfl (by rw [show (2230 / 1 : Int64) = 2230 from by decide]) ?_
  refine z_ldc2 hX q1746 dX4_spells_36 39 rfl ?_
  refine z_lrem hX dX4_spells_39 40 rfl (by first | assumption | decide) ?_
  refine z_eqL (L' := [(0, .ref o), (1, .long 2230), (3, .long 729), (5, .long 1)]) (st' := [.long 16, .ref o]) rfl (by rw [show (2230 - 2230 / 27 * 27 : Int64) = 16 from by decide]) ?_
  refine z_l2i hX dX4_spells_40 41 rfl (w := 16) (by decide) ?_
  refine z_bipush hX dX4_spells_41 43 rfl zkb_96 ?_
  refine z_iadd hX dX4_spells_43 44 rfl (w := nI 112) (nI_add 16 96) ?_
  refine z_callVv hX cwX4_345 (met_X4_spellsByte hG hM.1 (nI 112) ((T + 1) + 1) (by omega) (mgs_speltMany _ _)) hM.1.o rfl rfl dX4_spells_44 47 rfl rfl rfl (Nat.le_of_ble_eq_true rfl) (by decide) ⟨Nat.zero_le _, Nat.zero_le _⟩ (fun G hhM => ?_)
  have hM := zMs.tr hM hhM
  have hM : zMs g G0 G o (ms_speltMany (ms_spelt M (x4_spellsByte_spelt (x4_spellsByte_spelt (x4_spellsByte_spelt (mt_spelt M) (nI 99) T) (nI 97) (T + 1)) (nI 112) ((T + 1) + 1))) (nI (((T + 1) + 1) + 1))) := by simpa only [mg_spelt_speltMany, mgs_spelt, mc_spelt_speltMany, mm_spelt, mm_speltMany] using hM
  refine z_lload hX dX4_spells_47 49 rfl 3 rfl ?_
  refine z_ldc2 hX q1746 dX4_spells_49 52 rfl ?_
  refine z_ldiv hX dX4_spells_52 53 rfl (by first | assumption | decide) ?_
  refine z_eqL (L' := [(0, .ref o), (1, .long 2230), (3, .long 729), (5, .long 1)]) (st' := [.long 0]) rfl (by rw [show (1 / 27 : Int64) = 0 from by decide]) ?_
  refine z_lstore hX dX4_spells_53 55 rfl (Nat.le_of_ble_eq_true rfl) rfl (L' := [(0, .ref o), (1, .long 2230), (3, .long 729), (5, .long 0)]) rfl ?_
  refine z_goto hX dX4_spells_55 (tgt := 24) (by decide) ?_
  refine z_lload hX dX4_spells_24 26 rfl 3 rfl ?_
  refine z_lconst hX dX4_spells_26 27 rfl (w := 0) rfl ?_
  refine z_lcmp hX dX4_spells_27 28 rfl ?_
  refine z_lcmp_le hX dX4_spells_28 31 rfl (tgt := 58) (by decide) (fun c7 => ?_) (fun c7 => ?_)
  rotate_left 1
  · exact absurd c7 (by decide)
  exact z_vret hX hQ (Nat.zero_le _) (Nat.zero_le _) rfl dX4_spells_58 ⟨rfl, hM⟩
def x4_spells_shock_spelt (m_spelt : Nat → Int32) (T : Nat) : Nat → Int32 := x4_spellsByte_spelt (x4_spellsByte_spelt (x4_spellsByte_spelt (x4_spellsByte_spelt (x4_spellsByte_spelt (m_spelt) (nI 115) T) (nI 104) (T + 1)) (nI 111) ((T + 1) + 1)) (nI 99) (((T + 1) + 1) + 1)) (nI 107) ((((T + 1) + 1) + 1) + 1)
set_option maxHeartbeats 4000000 in
theorem met_X4_spells_shock {g : Zg} (hG : zG g) {G0 : zHG} {o : Nat} {M : MT} (hM : zMo g G0 o M) (T : Nat)  (h_T : T < 1195) (hfT : mt_speltMany M = nI T)  : ZM g yX4_spells cX4_spells 7 none 2 0 0 [.ref o, .long 10265870] G0 (fun r G' => r = none ∧ zMs g G0 G' o (ms_speltMany (ms_spelt M (x4_spells_shock_spelt (mt_spelt M) T)) (nI (((((T + 1) + 1) + 1) + 1) + 1)))) := by
  unfold x4_spells_shock_spelt
  refine ZM_mk hG (by decide) (Nat.le_of_ble_eq_true rfl) ?_
  intro X hX hname hQ
  obtain ⟨G, hGe⟩ : ∃ z, z = G0 := ⟨_, rfl⟩
  have hM : zMs g G0 G o M := by rw [hGe]; exact zMs.rf hM
  show ZW g X 0 0 G0 0 [(0, .ref o), (1, .long 10265870)] []
  rw [← hGe]
  have hM : zMs g G0 G o (ms_speltMany M (nI T)) := by simpa only [me2_speltMany, hfT] using hM
  refine z_lconst hX dX4_spells_0 1 rfl (w := 1) rfl ?_
  refine z_lstore_n hX dX4_spells_1 2 rfl (i := 3) rfl (Nat.le_of_ble_eq_true rfl) rfl (L' := [(0, .ref o), (1, .long 10265870), (3, .long 1)]) rfl ?_
  refine z_ldc2 hX q1746 dX4_spells_2 5 rfl ?_
  refine z_lload_n hX dX4_spells_5 6 rfl (i := 3) rfl 2 rfl ?_
  refine z_lmul hX dX4_spells_6 7 rfl ?_
  refine z_eqL (L' := [(0, .ref o), (1, .long 10265870), (3, .long 1)]) (st' := [.long 27]) rfl (by rw [show (27 * 1 : Int64) = 27 from by decide]) ?_
  refine z_lload_n hX dX4_spells_7 8 rfl (i := 1) rfl 1 rfl ?_
  refine z_lcmp hX dX4_spells_8 9 rfl ?_
  refine z_lcmp_gt hX dX4_spells_9 12 rfl (tgt := 21) (by decide) (fun c1 => ?_) (fun c1 => ?_)
  · exact absurd c1 (by decide)
  refine z_lload_n hX dX4_spells_12 13 rfl (i := 3) rfl 2 rfl ?_
  refine z_ldc2 hX q1746 dX4_spells_13 16 rfl ?_
  refine z_lmul hX dX4_spells_16 17 rfl ?_
  refine z_eqL (L' := [(0, .ref o), (1, .long 10265870), (3, .long 1)]) (st' := [.long 27]) rfl (by rw [show (1 * 27 : Int64) = 27 from by decide]) ?_
  refine z_lstore_n hX dX4_spells_17 18 rfl (i := 3) rfl (Nat.le_of_ble_eq_true rfl) rfl (L' := [(0, .ref o), (1, .long 10265870), (3, .long 27)]) rfl ?_
  refine z_goto hX dX4_spells_18 (tgt := 2) (by decide) ?_
  refine z_ldc2 hX q1746 dX4_spells_2 5 rfl ?_
  refine z_lload_n hX dX4_spells_5 6 rfl (i := 3) rfl 2 rfl ?_
  refine z_lmul hX dX4_spells_6 7 rfl ?_
  refine z_eqL (L' := [(0, .ref o), (1, .long 10265870), (3, .long 27)]) (st' := [.long 729]) rfl (by rw [show (27 * 27 : Int64) = 729 from by decide]) ?_
  refine z_lload_n hX dX4_spells_7 8 rfl (i := 1) rfl 1 rfl ?_
  refine z_lcmp hX dX4_spells_8 9 rfl ?_
  refine z_lcmp_gt hX dX4_spells_9 12 rfl (tgt := 21) (by decide) (fun c2 => ?_) (fun c2 => ?_)
  · exact absurd c2 (by decide)
  refine z_lload_n hX dX4_spells_12 13 rfl (i := 3) rfl 2 rfl ?_
  refine z_ldc2 hX q1746 dX4_spells_13 16 rfl ?_
  refine z_lmul hX dX4_spells_16 17 rfl ?_
  refine z_eqL (L' := [(0, .ref o), (1, .long 10265870), (3, .long 27)]) (st' := [.long 729]) rfl (by rw [show (27 * 27 : Int64) = 729 from by decide]) ?_
  refine z_lstore_n hX dX4_spells_17 18 rfl (i := 3) rfl (Nat.le_of_ble_eq_true rfl) rfl (L' := [(0, .ref o), (1, .long 10265870), (3, .long 729)]) rfl ?_
  refine z_goto hX dX4_spells_18 (tgt := 2) (by decide) ?_
  refine z_ldc2 hX q1746 dX4_spells_2 5 rfl ?_
  refine z_lload_n hX dX4_spells_5 6 rfl (i := 3) rfl 2 rfl ?_
  refine z_lmul hX dX4_spells_6 7 rfl ?_
  refine z_eqL (L' := [(0, .ref o), (1, .long 10265870), (3, .long 729)]) (st' := [.long 19683]) rfl (by rw [show (27 * 729 : Int64) = 19683 from by decide]) ?_
  refine z_lload_n hX dX4_spells_7 8 rfl (i := 1) rfl 1 rfl ?_
  refine z_lcmp hX dX4_spells_8 9 rfl ?_
  refine z_lcmp_gt hX dX4_spells_9 12 rfl (tgt := 21) (by decide) (fun c3 => ?_) (fun c3 => ?_)
  · exact absurd c3 (by decide)
  refine z_lload_n hX dX4_spells_12 13 rfl (i := 3) rfl 2 rfl ?_
  refine z_ldc2 hX q1746 dX4_spells_13 16 rfl ?_
  refine z_lmul hX dX4_spells_16 17 rfl ?_
  refine z_eqL (L' := [(0, .ref o), (1, .long 10265870), (3, .long 729)]) (st' := [.long 19683]) rfl (by rw [show (729 * 27 : Int64) = 19683 from by decide]) ?_
  refine z_lstore_n hX dX4_spells_17 18 rfl (i := 3) rfl (Nat.le_of_ble_eq_true rfl) rfl (L' := [(0, .ref o), (1, .long 10265870), (3, .long 19683)]) rfl ?_
  refine z_goto hX dX4_spells_18 (tgt := 2) (by decide) ?_
  refine z_ldc2 hX q1746 dX4_spells_2 5 rfl ?_
  refine z_lload_n hX dX4_spells_5 6 rfl (i := 3) rfl 2 rfl ?_
  refine z_lmul hX dX4_spells_6 7 rfl ?_
  refine z_eqL (L' := [(0, .ref o), (1, .long 10265870), (3, .long 19683)]) (st' := [.long 531441]) rfl (by rw [show (27 * 19683 : Int64) = 531441 from by decide]) ?_
  refine z_lload_n hX dX4_spells_7 8 rfl (i := 1) rfl 1 rfl ?_
  refine z_lcmp hX dX4_spells_8 9 rfl ?_
  refine z_lcmp_gt hX dX4_spells_9 12 rfl (tgt := 21) (by decide) (fun c4 => ?_) (fun c4 => ?_)
  · exact absurd c4 (by decide)
  refine z_lload_n hX dX4_spells_12 13 rfl (i := 3) rfl 2 rfl ?_
  refine z_ldc2 hX q1746 dX4_spells_13 16 rfl ?_
  refine z_lmul hX dX4_spells_16 17 rfl ?_
  refine z_eqL (L' := [(0, .ref o), (1, .long 10265870), (3, .long 19683)]) (st' := [.long 531441]) rfl (by rw [show (19683 * 27 : Int64) = 531441 from by decide]) ?_
  refine z_lstore_n hX dX4_spells_17 18 rfl (i := 3) rfl (Nat.le_of_ble_eq_true rfl) rfl (L' := [(0, .ref o), (1, .long 10265870), (3, .long 531441)]) rfl ?_
  refine z_goto hX dX4_spells_18 (tgt := 2) (by decide) ?_
  refine z_ldc2 hX q1746 dX4_spells_2 5 rfl ?_
  refine z_lload_n hX dX4_spells_5 6 rfl (i := 3) rfl 2 rfl ?_
  refine z_lmul hX dX4_spells_6 7 rfl ?_
  refine z_eqL (L' := [(0, .ref o), (1, .long 10265870), (3, .long 531441)]) (st' := [.long 14348907]) rfl (by rw [show (27 * 531441 : Int64) = 14348907 from by decide]) ?_
  refine z_lload_n hX dX4_spells_7 8 rfl (i := 1) rfl 1 rfl ?_
  refine z_lcmp hX dX4_spells_8 9 rfl ?_
  refine z_lcmp_gt hX dX4_spells_9 12 rfl (tgt := 21) (by decide) (fun c5 => ?_) (fun c5 => ?_)
  rotate_left 1
  · exact absurd (by decide) c5
  refine z_lload_n hX dX4_spells_21 22 rfl (i := 3) rfl 2 rfl ?_
  refine z_lstore hX dX4_spells_22 24 rfl (Nat.le_of_ble_eq_true rfl) rfl (L' := [(0, .ref o), (1, .long 10265870), (3, .long 531441), (5, .long 531441)]) rfl ?_
  refine z_lload hX dX4_spells_24 26 rfl 3 rfl ?_
  refine z_lconst hX dX4_spells_26 27 rfl (w := 0) rfl ?_
  refine z_lcmp hX dX4_spells_27 28 rfl ?_
  refine z_lcmp_le hX dX4_spells_28 31 rfl (tgt := 58) (by decide) (fun c6 => ?_) (fun c6 => ?_)
  · exact absurd (by decide) c6
  refine z_aload_n hX dX4_spells_31 32 rfl (i := 0) rfl 0 rfl ?_
  refine z_lload_n hX dX4_spells_32 33 rfl (i := 1) rfl 1 rfl ?_
  refine z_lload hX dX4_spells_33 35 rfl 3 rfl ?_
  refine z_ldiv hX dX4_spells_35 36 rfl (by first | assumption | decide) ?_
  refine z_eqL (L' := [(0, .ref o), (1, .long 10265870), (3, .long 531441), (5, .long 531441)]) (st' := [.long 19, .ref o]) rfl (by rw [show (10265870 / 531441 : Int64) = 19 from by decide]) ?_
  refine z_ldc2 hX q1746 dX4_spells_36 39 rfl ?_
  refine z_lrem hX dX4_spells_39 40 rfl (by first | assumption | decide) ?_
  refine z_eqL (L' := [(0, .ref o), (1, .long 10265870), (3, .long 531441), (5, .long 531441)]) (st' := [.long 19, .ref o]) rfl (by rw [show (19 - 19 / 27 * 27 : Int64) = 19 from by decide]) ?_
  refine z_l2i hX dX4_spells_40 41 rfl (w := 19) (by decide) ?_
  refine z_bipush hX dX4_spells_41 43 rfl zkb_96 ?_
  refine z_iadd hX dX4_spells_43 44 rfl (w := nI 115) (nI_add 19 96) ?_
  refine z_callVv hX cwX4_345 (met_X4_spellsByte hG hM.1 (nI 115) T (by omega) (mgs_speltMany _ _)) hM.1.o rfl rfl dX4_spells_44 47 rfl rfl rfl (Nat.le_of_ble_eq_true rfl) (by decide) ⟨Nat.zero_le _, Nat.zero_le _⟩ (fun G hhM => ?_)
  have hM := zMs.tr hM hhM
  have hM : zMs g G0 G o (ms_speltMany (ms_spelt M (x4_spellsByte_spelt (mt_spelt M) (nI 115) T)) (nI (T + 1))) := by simpa only [mg_spelt_speltMany, mc_spelt_speltMany, mm_spelt, mm_speltMany] using hM
  refine z_lload hX dX4_spells_47 49 rfl 3 rfl ?_
  refine z_ldc2 hX q1746 dX4_spells_49 52 rfl ?_
  refine z_ldiv hX dX4_spells_52 53 rfl (by first | assumption | decide) ?_
  refine z_eqL (L' := [(0, .ref o), (1, .long 10265870), (3, .long 531441), (5, .long 531441)]) (st' := [.long 19683]) rfl (by rw [show (531441 / 27 : Int64) = 19683 from by decide]) ?_
  refine z_lstore hX dX4_spells_53 55 rfl (Nat.le_of_ble_eq_true rfl) rfl (L' := [(0, .ref o), (1, .long 10265870), (3, .long 531441), (5, .long 19683)]) rfl ?_
  refine z_goto hX dX4_spells_55 (tgt := 24) (by decide) ?_
  refine z_lload hX dX4_spells_24 26 rfl 3 rfl ?_
  refine z_lconst hX dX4_spells_26 27 rfl (w := 0) rfl ?_
  refine z_lcmp hX dX4_spells_27 28 rfl ?_
  refine z_lcmp_le hX dX4_spells_28 31 rfl (tgt := 58) (by decide) (fun c7 => ?_) (fun c7 => ?_)
  · exact absurd (by decide) c7
  refine z_aload_n hX dX4_spells_31 32 rfl (i := 0) rfl 0 rfl ?_
  refine z_lload_n hX dX4_spells_32 33 rfl (i := 1) rfl 1 rfl ?_
  refine z_lload hX dX4_spells_33 35 rfl 3 rfl ?_
  refine z_ldiv hX dX4_spells_35 36 rfl (by first | assumption | decide) ?_
  refine z_eqL (L' := [(0, .ref o), (1, .long 10265870), (3, .long 531441), (5, .long 19683)]) (st' := [.long 521, .ref o]) rfl (by rw [show (10265870 / 19683 : Int64) = 521 from by decide]) ?_
  refine z_ldc2 hX q1746 dX4_spells_36 39 rfl ?_
  refine z_lrem hX dX4_spells_39 40 rfl (by first | assumption | decide) ?_
  refine z_eqL (L' := [(0, .ref o), (1, .long 10265870), (3, .long 531441), (5, .long 19683)]) (st' := [.long 8, .ref o]) rfl (by rw [show (521 - 521 / 27 * 27 : Int64) = 8 from by decide]) ?_
  refine z_l2i hX dX4_spells_40 41 rfl (w := 8) (by decide) ?_
  refine z_bipush hX dX4_spells_41 43 rfl zkb_96 ?_
  refine z_iadd hX dX4_spells_43 44 rfl (w := nI 104) (nI_add 8 96) ?_
  refine z_callVv hX cwX4_345 (met_X4_spellsByte hG hM.1 (nI 104) (T + 1) (by omega) (mgs_speltMany _ _)) hM.1.o rfl rfl dX4_spells_44 47 rfl rfl rfl (Nat.le_of_ble_eq_true rfl) (by decide) ⟨Nat.zero_le _, Nat.zero_le _⟩ (fun G hhM => ?_)
  have hM := zMs.tr hM hhM
  have hM : zMs g G0 G o (ms_speltMany (ms_spelt M (x4_spellsByte_spelt (x4_spellsByte_spelt (mt_spelt M) (nI 115) T) (nI 104) (T + 1))) (nI ((T + 1) + 1))) := by simpa only [mg_spelt_speltMany, mgs_spelt, mc_spelt_speltMany, mm_spelt, mm_speltMany] using hM
  refine z_lload hX dX4_spells_47 49 rfl 3 rfl ?_
  refine z_ldc2 hX q1746 dX4_spells_49 52 rfl ?_
  refine z_ldiv hX dX4_spells_52 53 rfl (by first | assumption | decide) ?_
  refine z_eqL (L' := [(0, .ref o), (1, .long 10265870), (3, .long 531441), (5, .long 19683)]) (st' := [.long 729]) rfl (by rw [show (19683 / 27 : Int64) = 729 from by decide]) ?_
  refine z_lstore hX dX4_spells_53 55 rfl (Nat.le_of_ble_eq_true rfl) rfl (L' := [(0, .ref o), (1, .long 10265870), (3, .long 531441), (5, .long 729)]) rfl ?_
  refine z_goto hX dX4_spells_55 (tgt := 24) (by decide) ?_
  refine z_lload hX dX4_spells_24 26 rfl 3 rfl ?_
  refine z_lconst hX dX4_spells_26 27 rfl (w := 0) rfl ?_
  refine z_lcmp hX dX4_spells_27 28 rfl ?_
  refine z_lcmp_le hX dX4_spells_28 31 rfl (tgt := 58) (by decide) (fun c8 => ?_) (fun c8 => ?_)
  · exact absurd (by decide) c8
  refine z_aload_n hX dX4_spells_31 32 rfl (i := 0) rfl 0 rfl ?_
  refine z_lload_n hX dX4_spells_32 33 rfl (i := 1) rfl 1 rfl ?_
  refine z_lload hX dX4_spells_33 35 rfl 3 rfl ?_
  refine z_ldiv hX dX4_spells_35 36 rfl (by first | assumption | decide) ?_
  refine z_eqL (L' := [(0, .ref o), (1, .long 10265870), (3, .long 531441), (5, .long 729)]) (st' := [.long 14082, .ref o]) rfl (by rw [show (10265870 / 729 : Int64) = 14082 from by decide]) ?_
  refine z_ldc2 hX q1746 dX4_spells_36 39 rfl ?_
  refine z_lrem hX dX4_spells_39 40 rfl (by first | assumption | decide) ?_
  refine z_eqL (L' := [(0, .ref o), (1, .long 10265870), (3, .long 531441), (5, .long 729)]) (st' := [.long 15, .ref o]) rfl (by rw [show (14082 - 14082 / 27 * 27 : Int64) = 15 from by decide]) ?_
  refine z_l2i hX dX4_spells_40 41 rfl (w := 15) (by decide) ?_
  refine z_bipush hX dX4_spells_41 43 rfl zkb_96 ?_
  refine z_iadd hX dX4_spells_43 44 rfl (w := nI 111) (nI_add 15 96) ?_
  refine z_callVv hX cwX4_345 (met_X4_spellsByte hG hM.1 (nI 111) ((T + 1) + 1) (by omega) (mgs_speltMany _ _)) hM.1.o rfl rfl dX4_spells_44 47 rfl rfl rfl (Nat.le_of_ble_eq_true rfl) (by decide) ⟨Nat.zero_le _, Nat.zero_le _⟩ (fun G hhM => ?_)
  have hM := zMs.tr hM hhM
  have hM : zMs g G0 G o (ms_speltMany (ms_spelt M (x4_spellsByte_spelt (x4_spellsByte_spelt (x4_spellsByte_spelt (mt_spelt M) (nI 115) T) (nI 104) (T + 1)) (nI 111) ((T + 1) + 1))) (nI (((T + 1) + 1) + 1))) := by simpa only [mg_spelt_speltMany, mgs_spelt, mc_spelt_speltMany, mm_spelt, mm_speltMany] using hM
  refine z_lload hX dX4_spells_47 49 rfl 3 rfl ?_
  refine z_ldc2 hX q1746 dX4_spells_49 52 rfl ?_
  refine z_ldiv hX dX4_spells_52 53 rfl (by first | assumption | decide) ?_
  refine z_eqL (L' := [(0, .ref o), (1, .long 10265870), (3, .long 531441), (5, .long 729)]) (st' := [.long 27]) rfl (by rw [show (729 / 27 : Int64) = 27 from by decide]) ?_
  refine z_lstore hX dX4_spells_53 55 rfl (Nat.le_of_ble_eq_true rfl) rfl (L' := [(0, .ref o), (1, .long 10265870), (3, .long 531441), (5, .long 27)]) rfl ?_
  refine z_goto hX dX4_spells_55 (tgt := 24) (by decide) ?_
  refine z_lload hX dX4_spells_24 26 rfl 3 rfl ?_
  refine z_lconst hX dX4_spells_26 27 rfl (w := 0) rfl ?_
  refine z_lcmp hX dX4_spells_27 28 rfl ?_
  refine z_lcmp_le hX dX4_spells_28 31 rfl (tgt := 58) (by decide) (fun c9 => ?_) (fun c9 => ?_)
  · exact absurd (by decide) c9
  refine z_aload_n hX dX4_spells_31 32 rfl (i := 0) rfl 0 rfl ?_
  refine z_lload_n hX dX4_spells_32 33 rfl (i := 1) rfl 1 rfl ?_
  refine z_lload hX dX4_spells_33 35 rfl 3 rfl ?_
  refine z_ldiv hX dX4_spells_35 36 rfl (by first | assumption | decide) ?_
  refine z_eqL (L' := [(0, .ref o), (1, .long 10265870), (3, .long 531441), (5, .long 27)]) (st' := [.long 380217, .ref o]) rfl (by rw [show (10265870 / 27 : Int64) = 380217 from by decide]) ?_
  refine z_ldc2 hX q1746 dX4_spells_36 39 rfl ?_
  refine z_lrem hX dX4_spells_39 40 rfl (by first | assumption | decide) ?_
  refine z_eqL (L' := [(0, .ref o), (1, .long 10265870), (3, .long 531441), (5, .long 27)]) (st' := [.long 3, .ref o]) rfl (by rw [show (380217 - 380217 / 27 * 27 : Int64) = 3 from by decide]) ?_
  refine z_l2i hX dX4_spells_40 41 rfl (w := 3) (by decide) ?_
  refine z_bipush hX dX4_spells_41 43 rfl zkb_96 ?_
  refine z_iadd hX dX4_spells_43 44 rfl (w := nI 99) (nI_add 3 96) ?_
  refine z_callVv hX cwX4_345 (met_X4_spellsByte hG hM.1 (nI 99) (((T + 1) + 1) + 1) (by omega) (mgs_speltMany _ _)) hM.1.o rfl rfl dX4_spells_44 47 rfl rfl rfl (Nat.le_of_ble_eq_true rfl) (by decide) ⟨Nat.zero_le _, Nat.zero_le _⟩ (fun G hhM => ?_)
  have hM := zMs.tr hM hhM
  have hM : zMs g G0 G o (ms_speltMany (ms_spelt M (x4_spellsByte_spelt (x4_spellsByte_spelt (x4_spellsByte_spelt (x4_spellsByte_spelt (mt_spelt M) (nI 115) T) (nI 104) (T + 1)) (nI 111) ((T + 1) + 1)) (nI 99) (((T + 1) + 1) + 1))) (nI ((((T + 1) + 1) + 1) + 1))) := by simpa only [mg_spelt_speltMany, mgs_spelt, mc_spelt_speltMany, mm_spelt, mm_speltMany] using hM
  refine z_lload hX dX4_spells_47 49 rfl 3 rfl ?_
  refine z_ldc2 hX q1746 dX4_spells_49 52 rfl ?_
  refine z_ldiv hX dX4_spells_52 53 rfl (by first | assumption | decide) ?_
  refine z_eqL (L' := [(0, .ref o), (1, .long 10265870), (3, .long 531441), (5, .long 27)]) (st' := [.long 1]) rfl (by rw [show (27 / 27 : Int64) = 1 from by decide]) ?_
  refine z_lstore hX dX4_spells_53 55 rfl (Nat.le_of_ble_eq_true rfl) rfl (L' := [(0, .ref o), (1, .long 10265870), (3, .long 531441), (5, .long 1)]) rfl ?_
  refine z_goto hX dX4_spells_55 (tgt := 24) (by decide) ?_
  refine z_lload hX dX4_spells_24 26 rfl 3 rfl ?_
  refine z_lconst hX dX4_spells_26 27 rfl (w := 0) rfl ?_
  refine z_lcmp hX dX4_spells_27 28 rfl ?_
  refine z_lcmp_le hX dX4_spells_28 31 rfl (tgt := 58) (by decide) (fun c10 => ?_) (fun c10 => ?_)
  · exact absurd (by decide) c10
  refine z_aload_n hX dX4_spells_31 32 rfl (i := 0) rfl 0 rfl ?_
  refine z_lload_n hX dX4_spells_32 33 rfl (i := 1) rfl 1 rfl ?_
  refine z_lload hX dX4_spells_33 35 rfl 3 rfl ?_
  refine z_ldiv hX dX4_spells_35 36 rfl (by first | assumption | decide) ?_
  refine z_eqL (L' := [(0, .ref o), (1, .long 10265870), (3, .long 531441), (5, .long 1)]) (st' := [.long 10265870, .ref o]) rfl (by rw [show (10265870 / 1 : Int64) = 10265870 from by decide]) ?_
  refine z_ldc2 hX q1746 dX4_spells_36 39 rfl ?_
  refine z_lrem hX dX4_spells_39 40 rfl (by first | assumption | decide) ?_
  refine z_eqL (L' := [(0, .ref o), (1, .long 10265870), (3, .long 531441), (5, .long 1)]) (st' := [.long 11, .ref o]) rfl (by rw [show (10265870 - 10265870 / 27 * 27 : Int64) = 11 from by decide]) ?_
  refine z_l2i hX dX4_spells_40 41 rfl (w := 11) (by decide) ?_
  refine z_bipush hX dX4_spells_41 43 rfl zkb_96 ?_
  refine z_iadd hX dX4_spells_43 44 rfl (w := nI 107) (nI_add 11 96) ?_
  refine z_callVv hX cwX4_345 (met_X4_spellsByte hG hM.1 (nI 107) ((((T + 1) + 1) + 1) + 1) (by omega) (mgs_speltMany _ _)) hM.1.o rfl rfl dX4_spells_44 47 rfl rfl rfl (Nat.le_of_ble_eq_true rfl) (by decide) ⟨Nat.zero_le _, Nat.zero_le _⟩ (fun G hhM => ?_)
  have hM := zMs.tr hM hhM
  have hM : zMs g G0 G o (ms_speltMany (ms_spelt M (x4_spellsByte_spelt (x4_spellsByte_spelt (x4_spellsByte_spelt (x4_spellsByte_spelt (x4_spellsByte_spelt (mt_spelt M) (nI 115) T) (nI 104) (T + 1)) (nI 111) ((T + 1) + 1)) (nI 99) (((T + 1) + 1) + 1)) (nI 107) ((((T + 1) + 1) + 1) + 1))) (nI (((((T + 1) + 1) + 1) + 1) + 1))) := by simpa only [mg_spelt_speltMany, mgs_spelt, mc_spelt_speltMany, mm_spelt, mm_speltMany] using hM
  refine z_lload hX dX4_spells_47 49 rfl 3 rfl ?_
  refine z_ldc2 hX q1746 dX4_spells_49 52 rfl ?_
  refine z_ldiv hX dX4_spells_52 53 rfl (by first | assumption | decide) ?_
  refine z_eqL (L' := [(0, .ref o), (1, .long 10265870), (3, .long 531441), (5, .long 1)]) (st' := [.long 0]) rfl (by rw [show (1 / 27 : Int64) = 0 from by decide]) ?_
  refine z_lstore hX dX4_spells_53 55 rfl (Nat.le_of_ble_eq_true rfl) rfl (L' := [(0, .ref o), (1, .long 10265870), (3, .long 531441), (5, .long 0)]) rfl ?_
  refine z_goto hX dX4_spells_55 (tgt := 24) (by decide) ?_
  refine z_lload hX dX4_spells_24 26 rfl 3 rfl ?_
  refine z_lconst hX dX4_spells_26 27 rfl (w := 0) rfl ?_
  refine z_lcmp hX dX4_spells_27 28 rfl ?_
  refine z_lcmp_le hX dX4_spells_28 31 rfl (tgt := 58) (by decide) (fun c11 => ?_) (fun c11 => ?_)
  rotate_left 1
  · exact absurd c11 (by decide)
  exact z_vret hX hQ (Nat.zero_le _) (Nat.zero_le _) rfl dX4_spells_58 ⟨rfl, hM⟩
