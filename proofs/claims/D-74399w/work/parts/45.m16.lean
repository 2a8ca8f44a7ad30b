set_option maxRecDepth 100000
def x4_merge_l29 (house : Int32) (other : Int32) (ini : Nat → Int32) (k : Nat) : Nat → Int32 := zfold k (fun j4 cj4 => upd cj4 (10 + (5 * house.toNatClampNeg) + j4) (x4_held ((cj4 (10 + (5 * house.toNatClampNeg) + j4)) + (cj4 (10 + (5 * other.toNatClampNeg) + j4))) 9999)) ini
theorem x4_merge_l29_0 (house : Int32) (other : Int32) (ini : Nat → Int32) : x4_merge_l29 house other ini 0 = ini := (zfold_0 _ _).trans (Eq.refl _)
def x4_merge_l74 (house : Int32) (other : Int32) (ini : Nat → Int32) (k : Nat) : Nat → Int32 := zfold k (fun j6 cj6 => upd cj6 (40 + (4 * house.toNatClampNeg) + j6) (x4_held ((cj6 (40 + (4 * house.toNatClampNeg) + j6)) + (cj6 (40 + (4 * other.toNatClampNeg) + j6))) 60)) ini
theorem x4_merge_l74_0 (house : Int32) (other : Int32) (ini : Nat → Int32) : x4_merge_l74 house other ini 0 = ini := (zfold_0 _ _).trans (Eq.refl _)
def x4_merge_l118 (house : Int32) (other : Int32) (ini : Nat → Int32) (k : Nat) : Nat → Int32 := zfold k (fun j8 cj8 => upd (upd cj8 (64 + (6 * house.toNatClampNeg) + j8) (if ¬ (j8 = house.toNatClampNeg) ∧ (¬ (j8 = other.toNatClampNeg)) then x4_held ((cj8 (64 + (6 * house.toNatClampNeg) + j8)) + (cj8 (64 + (6 * other.toNatClampNeg) + j8))) 999 else 0 : Int32)) (64 + (6 * j8) + house.toNatClampNeg) (if ¬ (j8 = house.toNatClampNeg) ∧ (¬ (j8 = other.toNatClampNeg)) then x4_held (((upd cj8 (64 + (6 * house.toNatClampNeg) + j8) (if ¬ (j8 = house.toNatClampNeg) ∧ (¬ (j8 = other.toNatClampNeg)) then x4_held ((cj8 (64 + (6 * house.toNatClampNeg) + j8)) + (cj8 (64 + (6 * other.toNatClampNeg) + j8))) 999 else 0 : Int32)) (64 + (6 * j8) + house.toNatClampNeg)) + ((upd cj8 (64 + (6 * house.toNatClampNeg) + j8) (if ¬ (j8 = house.toNatClampNeg) ∧ (¬ (j8 = other.toNatClampNeg)) then x4_held ((cj8 (64 + (6 * house.toNatClampNeg) + j8)) + (cj8 (64 + (6 * other.toNatClampNeg) + j8))) 999 else 0 : Int32)) (64 + (6 * j8) + other.toNatClampNeg))) 999 else 0 : Int32)) ini
theorem x4_merge_l118_0 (house : Int32) (other : Int32) (ini : Nat → Int32) : x4_merge_l118 house other ini 0 = ini := (zfold_0 _ _).trans (Eq.refl _)
def x4_merge (H : Nat) (house : Int32) (other : Int32) : Int32 := (if zin house H then (if zin other H then (if house.toNatClampNeg = other.toNatClampNeg then (-1) else (if house.toNatClampNeg ≤ other.toNatClampNeg then nI house.toNatClampNeg else (nI house.toNatClampNeg) - 1 : Int32) : Int32) else (-1) : Int32) else (-1) : Int32)
def x4_merge_now (m_now : Nat → Int32) (H : Nat) (house : Int32) (other : Int32) : Nat → Int32 := if zin house H then if zin other H then if house.toNatClampNeg = other.toNatClampNeg then m_now else x4_goes_now (x4_merge_l118 house other (x4_merge_l74 house other (x4_merge_l29 house other (m_now) 3) 4) 6) H other.toNatClampNeg else m_now else m_now
def x4_merge_undos (m_now : Nat → Int32) (m_undos : Nat → Int32) (H : Nat) (U : Nat) (house : Int32) (other : Int32) : Nat → Int32 := if zin house H then if zin other H then if house.toNatClampNeg = other.toNatClampNeg then m_undos else x4_remembers_undos (m_now) (m_undos) U else m_undos else m_undos
def x4_merge_undoMany (m_undoMany : Int32) (H : Nat) (U : Nat) (house : Int32) (other : Int32) : Int32 := if zin house H then if zin other H then if house.toNatClampNeg = other.toNatClampNeg then m_undoMany else x4_remembers_undoMany U else m_undoMany else m_undoMany
set_option maxHeartbeats 4000000 in
theorem met_X4_merge {g : Zg} (hG : zG g) {G0 : zHG} {o : Nat} {M : MT} (hM : zMo g G0 o M) {A H : Nat} {K : Nat → Nat} (hN : zWf (mt_now M) A H K) {U : Nat} (hU : mt_undoMany M = nI U ∧ U ≤ 12) (house : Int32) (other : Int32)    : ZM g yX4_merge cX4_merge 5 (some FieldType.int) 4 0 0 [.ref o, .int house, .int other] G0 (fun r G' => r = some (.int (x4_merge H house other)) ∧ zMs g G0 G' o (ms_undoMany (ms_undos (ms_now M (x4_merge_now (mt_now M) H house other)) (x4_merge_undos (mt_now M) (mt_undos M) H U house other)) (x4_merge_undoMany (mt_undoMany M) H U house other))) := by
  unfold x4_merge x4_merge_now x4_merge_undos x4_merge_undoMany
  have hU2 := hU.2
  have hN2 := hN.2.1
  have hN4 := hN.2.2.2.1
  refine ZM_mk hG (by decide) (Nat.le_of_ble_eq_true rfl) ?_
  intro X hX hname hQ
  obtain ⟨G, hGe⟩ : ∃ z, z = G0 := ⟨_, rfl⟩
  have hM : zMs g G0 G o M := by rw [hGe]; exact zMs.rf hM
  show ZW g X 0 0 G0 0 [(0, .ref o), (1, .int house), (2, .int other)] []
  rw [← hGe]
  refine z_aload_n hX dX4_merge_0 1 rfl (i := 0) rfl 0 rfl ?_
  refine z_iload_n hX dX4_merge_1 2 rfl (i := 1) rfl 1 rfl ?_
  refine z_callVp hX cwX4_237 (w := .int (if zin house H then 1 else 0 : Int32)) (met_X4_isHouse hG hM.1 hN house) hM.1.o rfl rfl dX4_merge_2 5 rfl rfl rfl (Nat.le_of_ble_eq_true rfl) (by decide) ⟨Nat.zero_le _, Nat.zero_le _⟩ ?_
  refine z_if_eqP hX (zin house H) dX4_merge_5 8 rfl (tgt := 21) (by decide) (fun c1 => ?_) (fun c1 => ?_)
  ·
    refine z_iconst hX dX4_merge_21 22 rfl zki_m1 ?_
    exact z_iret hX hQ (Nat.zero_le _) (Nat.zero_le _) rfl dX4_merge_22 ⟨(by first | (simp only [if_neg c1] <;> rfl; done) | grind), (by first | (simpa only [if_neg c1, me_now, me_undos, me_undoMany] using hM) | (simpa only [if_neg c1, me2_now, me2_undos, me2_undoMany, mg_undos_now, mg_undoMany_now, mg_undoMany_undos] using hM))⟩
  ·
    have e_house := zin_eq c1
    have l_house := zin_lt c1
    refine z_eqL (L' := [(0, .ref o), (1, .int (nI house.toNatClampNeg)), (2, .int other)]) (st' := []) (by rw [← e_house]) (by first | rfl | rw [← e_house]) ?_
    refine z_aload_n hX dX4_merge_8 9 rfl (i := 0) rfl 0 rfl ?_
    refine z_iload_n hX dX4_merge_9 10 rfl (i := 2) rfl 2 rfl ?_
    refine z_callVp hX cwX4_237 (w := .int (if zin other H then 1 else 0 : Int32)) (met_X4_isHouse hG hM.1 hN other) hM.1.o rfl rfl dX4_merge_10 13 rfl rfl rfl (Nat.le_of_ble_eq_true rfl) (by decide) ⟨Nat.zero_le _, Nat.zero_le _⟩ ?_
    refine z_if_eqP hX (zin other H) dX4_merge_13 16 rfl (tgt := 21) (by decide) (fun c2 => ?_) (fun c2 => ?_)
    ·
      refine z_iconst hX dX4_merge_21 22 rfl zki_m1 ?_
      exact z_iret hX hQ (Nat.zero_le _) (Nat.zero_le _) rfl dX4_merge_22 ⟨(by first | (simp only [if_pos c1, if_neg c2] <;> rfl; done) | grind), (by first | (simpa only [if_pos c1, if_neg c2, me_now, me_undos, me_undoMany] using hM) | (simpa only [if_pos c1, if_neg c2, me2_now, me2_undos, me2_undoMany, mg_undos_now, mg_undoMany_now, mg_undoMany_undos] using hM))⟩
    ·
      have e_other := zin_eq c2
      have l_other := zin_lt c2
      refine z_eqL (L' := [(0, .ref o), (1, .int (nI house.toNatClampNeg)), (2, .int (nI other.toNatClampNeg))]) (st' := []) (by rw [← e_other]) (by first | rfl | rw [← e_other]) ?_
      refine z_iload_n hX dX4_merge_16 17 rfl (i := 1) rfl 1 rfl ?_
      refine z_iload_n hX dX4_merge_17 18 rfl (i := 2) rfl 2 rfl ?_
      refine z_icmp_neN hX house.toNatClampNeg other.toNatClampNeg (by omega) (by omega) dX4_merge_18 21 rfl (tgt := 23) (by decide) (fun c3 => ?_) (fun c3 => ?_)
      ·
        refine z_aload_n hX dX4_merge_23 24 rfl (i := 0) rfl 0 rfl ?_
        refine z_callVv hX cwX4_234 (met_X4_remembers hG hM.1 hU) hM.1.o rfl rfl dX4_merge_24 27 rfl rfl rfl (Nat.le_of_ble_eq_true rfl) (by decide) ⟨Nat.zero_le _, Nat.zero_le _⟩ (fun G hhM => ?_)
        have hM := zMs.tr hM hhM
        have hM : zMs g G0 G o (ms_undoMany (ms_undos M (x4_remembers_undos (mt_now M) (mt_undos M) U)) (x4_remembers_undoMany U)) := hM
        refine z_iconst hX dX4_merge_27 28 rfl zki_0 ?_
        refine z_istore_n hX dX4_merge_28 29 rfl (i := 3) rfl (Nat.le_of_ble_eq_true rfl) rfl (L' := [(0, .ref o), (1, .int (nI house.toNatClampNeg)), (2, .int (nI other.toNatClampNeg)), (3, .int 0)]) rfl ?_
        have Wf5 : ∀ j4 : Nat, j4 ≤ 3 → zWf (x4_merge_l29 house other (mt_now M) j4) A H K := by
          intro j4
          induction j4 with
          | zero => intro _; simp only [x4_merge_l29_0]; exact hN
          | succ j4 ih =>
            intro hj4
            have ih := ih (by omega)
            unfold x4_merge_l29 at ih ⊢
            rw [zfold_s]
            generalize zfold j4 _ _ = cj4 at ih ⊢
            exact (zWf_upd ih (by omega) (by omega) (fun _ _ => by omega))
        have E6 : ∀ G : zHG, zMs g G0 G o (ms_undoMany (ms_undos (ms_now M (x4_merge_l29 house other (mt_now M) 3)) (x4_remembers_undos (mt_now M) (mt_undos M) U)) (x4_remembers_undoMany U)) → ZW g X 0 0 G 72 [(0, .ref o), (1, .int (nI house.toNatClampNeg)), (2, .int (nI other.toNatClampNeg)), (3, .int (nI 3))] [] := by
          intro G hM
          refine z_iconst hX dX4_merge_72 73 rfl zki_0 ?_
          refine z_istore_n hX dX4_merge_73 74 rfl (i := 3) rfl (Nat.le_of_ble_eq_true rfl) rfl (L' := [(0, .ref o), (1, .int (nI house.toNatClampNeg)), (2, .int (nI other.toNatClampNeg)), (3, .int 0)]) rfl ?_
          have Wf9 : ∀ j8 : Nat, j8 ≤ 4 → zWf (x4_merge_l74 house other (x4_merge_l29 house other (mt_now M) 3) j8) A H K := by
            intro j8
            induction j8 with
            | zero => intro _; simp only [x4_merge_l74_0]; exact (Wf5 3 (by omega))
            | succ j8 ih =>
              intro hj8
              have ih := ih (by omega)
              unfold x4_merge_l74 at ih ⊢
              rw [zfold_s]
              generalize zfold j8 _ _ = cj8 at ih ⊢
              exact (zWf_upd ih (by omega) (by omega) (fun _ _ => by omega))
          have E10 : ∀ G : zHG, zMs g G0 G o (ms_undoMany (ms_undos (ms_now M (x4_merge_l74 house other (x4_merge_l29 house other (mt_now M) 3) 4)) (x4_remembers_undos (mt_now M) (mt_undos M) U)) (x4_remembers_undoMany U)) → ZW g X 0 0 G 116 [(0, .ref o), (1, .int (nI house.toNatClampNeg)), (2, .int (nI other.toNatClampNeg)), (3, .int (nI 4))] [] := by
            intro G hM
            refine z_iconst hX dX4_merge_116 117 rfl zki_0 ?_
            refine z_istore_n hX dX4_merge_117 118 rfl (i := 3) rfl (Nat.le_of_ble_eq_true rfl) rfl (L' := [(0, .ref o), (1, .int (nI house.toNatClampNeg)), (2, .int (nI other.toNatClampNeg)), (3, .int 0)]) rfl ?_
            have Wf13 : ∀ j12 : Nat, j12 ≤ 6 → zWf (x4_merge_l118 house other (x4_merge_l74 house other (x4_merge_l29 house other (mt_now M) 3) 4) j12) A H K := by
              intro j12
              induction j12 with
              | zero => intro _; simp only [x4_merge_l118_0]; exact (Wf9 4 (by omega))
              | succ j12 ih =>
                intro hj12
                have ih := ih (by omega)
                unfold x4_merge_l118 at ih ⊢
                rw [zfold_s]
                generalize zfold j12 _ _ = cj12 at ih ⊢
                exact (zWf_upd (zWf_upd ih (by omega) (by omega) (fun _ _ => by omega)) (by omega) (by omega) (fun _ _ => by omega))
            have E14 : ∀ G : zHG, zMs g G0 G o (ms_undoMany (ms_undos (ms_now M (x4_merge_l118 house other (x4_merge_l74 house other (x4_merge_l29 house other (mt_now M) 3) 4) 6)) (x4_remembers_undos (mt_now M) (mt_undos M) U)) (x4_remembers_undoMany U)) → ZW g X 0 0 G 231 [(0, .ref o), (1, .int (nI house.toNatClampNeg)), (2, .int (nI other.toNatClampNeg)), (3, .int (nI 6))] [] := by
              intro G hM
              refine z_aload_n hX dX4_merge_231 232 rfl (i := 0) rfl 0 rfl ?_
              refine z_iload_n hX dX4_merge_232 233 rfl (i := 2) rfl 2 rfl ?_
              refine z_callVv hX cwX4_249 (met_X4_goes hG hM.1 (zWf_eq ((mg_now_undoMany _ _).trans ((mg_now_undos _ _).trans (mgs_now _ _))) (Wf13 6 (by omega))) other.toNatClampNeg (by omega) (by first | assumption | omega)) hM.1.o rfl rfl dX4_merge_233 236 rfl rfl rfl (Nat.le_of_ble_eq_true rfl) (by decide) ⟨Nat.zero_le _, Nat.zero_le _⟩ (fun G hhM => ?_)
              have hM := zMs.tr hM hhM
              have hM : zMs g G0 G o (ms_undoMany (ms_undos (ms_now M (x4_goes_now (x4_merge_l118 house other (x4_merge_l74 house other (x4_merge_l29 house other (mt_now M) 3) 4) 6) H other.toNatClampNeg)) (x4_remembers_undos (mt_now M) (mt_undos M) U)) (x4_remembers_undoMany U)) := by simpa only [mg_now_undos, mg_now_undoMany, mgs_now, mc_now_undos, mc_now_undoMany, mm_now, mc_undos_undoMany, mm_undos, mm_undoMany] using hM
              refine z_iload_n hX dX4_merge_236 237 rfl (i := 2) rfl 2 rfl ?_
              refine z_iload_n hX dX4_merge_237 238 rfl (i := 1) rfl 1 rfl ?_
              have J17 : ZW g X 0 0 G 248 [(0, .ref o), (1, .int (nI house.toNatClampNeg)), (2, .int (nI other.toNatClampNeg)), (3, .int (nI 6))] [.int (if house.toNatClampNeg ≤ other.toNatClampNeg then nI house.toNatClampNeg else (nI house.toNatClampNeg) - 1 : Int32)] := by
                exact z_iret hX hQ (Nat.zero_le _) (Nat.zero_le _) rfl dX4_merge_248 ⟨(by first | (simp only [if_pos c1, if_pos c2, if_neg c3] <;> rfl; done) | grind), (by first | (simpa only [if_pos c1, if_pos c2, if_neg c3, me_now, me_undos, me_undoMany] using hM) | (simpa only [if_pos c1, if_pos c2, if_neg c3, me2_now, me2_undos, me2_undoMany, mg_undos_now, mg_undoMany_now, mg_undoMany_undos] using hM))⟩
              refine z_icmp_geN hX other.toNatClampNeg house.toNatClampNeg (by omega) (by omega) dX4_merge_238 241 rfl (tgt := 247) (by decide) (fun c16 => ?_) (fun c16 => ?_)
              ·
                refine z_iload_n hX dX4_merge_247 248 rfl (i := 1) rfl 1 rfl ?_
                exact z_eqL rfl (by first | (simp only [if_pos c1, if_pos c2, if_neg c3, if_pos c16] <;> rfl; done) | grind) J17
              ·
                refine z_iload_n hX dX4_merge_241 242 rfl (i := 1) rfl 1 rfl ?_
                refine z_iconst hX dX4_merge_242 243 rfl zki_1 ?_
                refine z_isub hX dX4_merge_243 244 rfl (w := (nI house.toNatClampNeg) - 1) rfl ?_
                refine z_goto hX dX4_merge_244 (tgt := 248) (by decide) ?_
                exact z_eqL rfl (by first | (simp only [if_pos c1, if_pos c2, if_neg c3, if_neg (Nat.not_le.mpr c16)] <;> rfl; done) | grind) J17
            have Lp15 : ∀ k j12 : Nat, j12 + k = 6 → ∀ G : zHG, zMs g G0 G o (ms_undoMany (ms_undos (ms_now M (x4_merge_l118 house other (x4_merge_l74 house other (x4_merge_l29 house other (mt_now M) 3) 4) j12)) (x4_remembers_undos (mt_now M) (mt_undos M) U)) (x4_remembers_undoMany U)) → ZW g X 0 0 G 118 [(0, .ref o), (1, .int (nI house.toNatClampNeg)), (2, .int (nI other.toNatClampNeg)), (3, .int (nI j12))] [] := by
              intro k
              induction k with
              | zero =>
                intro j12 hj12 G hM
                rw [show j12 = 6 from by omega] at hM ⊢
                refine z_iload_n hX dX4_merge_118 119 rfl (i := 3) rfl 3 rfl ?_
                refine z_bipush hX dX4_merge_119 121 rfl zkb_6 ?_
                refine z_icmp_geN hX 6 6 (by omega) (by omega) dX4_merge_121 124 rfl (tgt := 231) (by decide) (fun c18 => ?_) (fun c18 => ?_)
                · exact E14 _ hM
                · exact absurd c18 (by omega)
              | succ k ih =>
                intro j12 hj12 G hM
                refine z_iload_n hX dX4_merge_118 119 rfl (i := 3) rfl 3 rfl ?_
                refine z_bipush hX dX4_merge_119 121 rfl zkb_6 ?_
                refine z_icmp_geN hX j12 6 (by omega) (by omega) dX4_merge_121 124 rfl (tgt := 231) (by decide) (fun c19 => ?_) (fun c19 => ?_)
                · exact absurd c19 (by omega)
                ·
                  refine z_iload_n hX dX4_merge_124 125 rfl (i := 3) rfl 3 rfl ?_
                  refine z_iload_n hX dX4_merge_125 126 rfl (i := 1) rfl 1 rfl ?_
                  have J21 : ZW g X 0 0 G 139 [(0, .ref o), (1, .int (nI house.toNatClampNeg)), (2, .int (nI other.toNatClampNeg)), (3, .int (nI j12))] [.int (if ¬ (j12 = house.toNatClampNeg) ∧ (¬ (j12 = other.toNatClampNeg)) then 1 else 0 : Int32)] := by
                    refine z_istore hX dX4_merge_139 141 rfl (Nat.le_of_ble_eq_true rfl) rfl (L' := [(0, .ref o), (1, .int (nI house.toNatClampNeg)), (2, .int (nI other.toNatClampNeg)), (3, .int (nI j12)), (4, .int (if ¬ (j12 = house.toNatClampNeg) ∧ (¬ (j12 = other.toNatClampNeg)) then 1 else 0 : Int32))]) rfl ?_
                    refine z_aload_n hX dX4_merge_141 142 rfl (i := 0) rfl 0 rfl ?_
                    refine z_getf hX fX4_7 hM.1.o dX4_merge_142 145 rfl (x := .ref (o + 1)) rfl ?_
                    refine z_bipush hX dX4_merge_145 147 rfl zkb_64 ?_
                    refine z_bipush hX dX4_merge_147 149 rfl zkb_6 ?_
                    refine z_iload_n hX dX4_merge_149 150 rfl (i := 1) rfl 1 rfl ?_
                    refine z_imul hX dX4_merge_150 151 rfl (w := nI (6 * house.toNatClampNeg)) (pk_mul 6 house.toNatClampNeg) ?_
                    refine z_iadd hX dX4_merge_151 152 rfl (w := nI (64 + (6 * house.toNatClampNeg))) (nI_add 64 (6 * house.toNatClampNeg)) ?_
                    refine z_iload_n hX dX4_merge_152 153 rfl (i := 3) rfl 3 rfl ?_
                    refine z_iadd hX dX4_merge_153 154 rfl (w := nI (64 + (6 * house.toNatClampNeg) + j12)) (nI_add (64 + (6 * house.toNatClampNeg)) j12) ?_
                    refine z_iload hX dX4_merge_154 156 rfl 4 rfl ?_
                    have J23 : ZW g X 0 0 G 182 [(0, .ref o), (1, .int (nI house.toNatClampNeg)), (2, .int (nI other.toNatClampNeg)), (3, .int (nI j12)), (4, .int (if ¬ (j12 = house.toNatClampNeg) ∧ (¬ (j12 = other.toNatClampNeg)) then 1 else 0 : Int32))] [.int (if ¬ (j12 = house.toNatClampNeg) ∧ (¬ (j12 = other.toNatClampNeg)) then x4_held (((x4_merge_l118 house other (x4_merge_l74 house other (x4_merge_l29 house other (mt_now M) 3) 4) j12) (64 + (6 * house.toNatClampNeg) + j12)) + ((x4_merge_l118 house other (x4_merge_l74 house other (x4_merge_l29 house other (mt_now M) 3) 4) j12) (64 + (6 * other.toNatClampNeg) + j12))) 999 else 0 : Int32), .int (nI (64 + (6 * house.toNatClampNeg) + j12)), .ref (o + 1)] := by
                      refine m_ast_now hX hM (64 + (6 * house.toNatClampNeg) + j12) (by omega) dX4_merge_182 183 rfl (fun G hM => ?_)
                      have hM : zMs g G0 G o (ms_undoMany (ms_undos (ms_now M (upd (x4_merge_l118 house other (x4_merge_l74 house other (x4_merge_l29 house other (mt_now M) 3) 4) j12) (64 + (6 * house.toNatClampNeg) + j12) (if ¬ (j12 = house.toNatClampNeg) ∧ (¬ (j12 = other.toNatClampNeg)) then x4_held (((x4_merge_l118 house other (x4_merge_l74 house other (x4_merge_l29 house other (mt_now M) 3) 4) j12) (64 + (6 * house.toNatClampNeg) + j12)) + ((x4_merge_l118 house other (x4_merge_l74 house other (x4_merge_l29 house other (mt_now M) 3) 4) j12) (64 + (6 * other.toNatClampNeg) + j12))) 999 else 0 : Int32))) (x4_remembers_undos (mt_now M) (mt_undos M) U)) (x4_remembers_undoMany U)) := by simpa only [mgs_now, mg_now_undoMany, mg_now_undos, mc_now_undos, mc_now_undoMany, mm_now, mc_undos_undoMany, mm_undos, mm_undoMany] using hM
                      refine z_aload_n hX dX4_merge_183 184 rfl (i := 0) rfl 0 rfl ?_
                      refine z_getf hX fX4_7 hM.1.o dX4_merge_184 187 rfl (x := .ref (o + 1)) rfl ?_
                      refine z_bipush hX dX4_merge_187 189 rfl zkb_64 ?_
                      refine z_bipush hX dX4_merge_189 191 rfl zkb_6 ?_
                      refine z_iload_n hX dX4_merge_191 192 rfl (i := 3) rfl 3 rfl ?_
                      refine z_imul hX dX4_merge_192 193 rfl (w := nI (6 * j12)) (pk_mul 6 j12) ?_
                      refine z_iadd hX dX4_merge_193 194 rfl (w := nI (64 + (6 * j12))) (nI_add 64 (6 * j12)) ?_
                      refine z_iload_n hX dX4_merge_194 195 rfl (i := 1) rfl 1 rfl ?_
                      refine z_iadd hX dX4_merge_195 196 rfl (w := nI (64 + (6 * j12) + house.toNatClampNeg)) (nI_add (64 + (6 * j12)) house.toNatClampNeg) ?_
                      refine z_iload hX dX4_merge_196 198 rfl 4 rfl ?_
                      have J25 : ZW g X 0 0 G 224 [(0, .ref o), (1, .int (nI house.toNatClampNeg)), (2, .int (nI other.toNatClampNeg)), (3, .int (nI j12)), (4, .int (if ¬ (j12 = house.toNatClampNeg) ∧ (¬ (j12 = other.toNatClampNeg)) then 1 else 0 : Int32))] [.int (if ¬ (j12 = house.toNatClampNeg) ∧ (¬ (j12 = other.toNatClampNeg)) then x4_held (((upd (x4_merge_l118 house other (x4_merge_l74 house other (x4_merge_l29 house other (mt_now M) 3) 4) j12) (64 + (6 * house.toNatClampNeg) + j12) (if ¬ (j12 = house.toNatClampNeg) ∧ (¬ (j12 = other.toNatClampNeg)) then x4_held (((x4_merge_l118 house other (x4_merge_l74 house other (x4_merge_l29 house other (mt_now M) 3) 4) j12) (64 + (6 * house.toNatClampNeg) + j12)) + ((x4_merge_l118 house other (x4_merge_l74 house other (x4_merge_l29 house other (mt_now M) 3) 4) j12) (64 + (6 * other.toNatClampNeg) + j12))) 999 else 0 : Int32)) (64 + (6 * j12) + house.toNatClampNeg)) + ((upd (x4_merge_l118 house other (x4_merge_l74 house other (x4_merge_l29 house other (mt_now M) 3) 4) j12) (64 + (6 * house.toNatClampNeg) + j12) (if ¬ (j12 = house.toNatClampNeg) ∧ (¬ (j12 = other.toNatClampNeg)) then x4_held (((x4_merge_l118 house other (x4_merge_l74 house other (x4_merge_l29 house other (mt_now M) 3) 4) j12) (64 + (6 * house.toNatClampNeg) + j12)) + ((x4_merge_l118 house other (x4_merge_l74 house other (x4_merge_l29 house other (mt_now M) 3) 4) j12) (64 + (6 * other.toNatClampNeg) + j12))) 999 else 0 : Int32)) (64 + (6 * j12) + other.toNatClampNeg))) 999 else 0 : Int32), .int (nI (64 + (6 * j12) + house.toNatClampNeg)), .ref (o + 1)] := by
                        refine m_ast_now hX hM (64 + (6 * j12) + house.toNatClampNeg) (by omega) dX4_merge_224 225 rfl (fun G hM => ?_)
                        have hM : zMs g G0 G o (ms_undoMany (ms_undos (ms_now M (upd (upd (x4_merge_l118 house other (x4_merge_l74 house other (x4_merge_l29 house other (mt_now M) 3) 4) j12) (64 + (6 * house.toNatClampNeg) + j12) (if ¬ (j12 = house.toNatClampNeg) ∧ (¬ (j12 = other.toNatClampNeg)) then x4_held (((x4_merge_l118 house other (x4_merge_l74 house other (x4_merge_l29 house other (mt_now M) 3) 4) j12) (64 + (6 * house.toNatClampNeg) + j12)) + ((x4_merge_l118 house other (x4_merge_l74 house other (x4_merge_l29 house other (mt_now M) 3) 4) j12) (64 + (6 * other.toNatClampNeg) + j12))) 999 else 0 : Int32)) (64 + (6 * j12) + house.toNatClampNeg) (if ¬ (j12 = house.toNatClampNeg) ∧ (¬ (j12 = other.toNatClampNeg)) then x4_held (((upd (x4_merge_l118 house other (x4_merge_l74 house other (x4_merge_l29 house other (mt_now M) 3) 4) j12) (64 + (6 * house.toNatClampNeg) + j12) (if ¬ (j12 = house.toNatClampNeg) ∧ (¬ (j12 = other.toNatClampNeg)) then x4_held (((x4_merge_l118 house other (x4_merge_l74 house other (x4_merge_l29 house other (mt_now M) 3) 4) j12) (64 + (6 * house.toNatClampNeg) + j12)) + ((x4_merge_l118 house other (x4_merge_l74 house other (x4_merge_l29 house other (mt_now M) 3) 4) j12) (64 + (6 * other.toNatClampNeg) + j12))) 999 else 0 : Int32)) (64 + (6 * j12) + house.toNatClampNeg)) + ((upd (x4_merge_l118 house other (x4_merge_l74 house other (x4_merge_l29 house other (mt_now M) 3) 4) j12) (64 + (6 * house.toNatClampNeg) + j12) (if ¬ (j12 = house.toNatClampNeg) ∧ (¬ (j12 = other.toNatClampNeg)) then x4_held (((x4_merge_l118 house other (x4_merge_l74 house other (x4_merge_l29 house other (mt_now M) 3) 4) j12) (64 + (6 * house.toNatClampNeg) + j12)) + ((x4_merge_l118 house other (x4_merge_l74 house other (x4_merge_l29 house other (mt_now M) 3) 4) j12) (64 + (6 * other.toNatClampNeg) + j12))) 999 else 0 : Int32)) (64 + (6 * j12) + other.toNatClampNeg))) 999 else 0 : Int32))) (x4_remembers_undos (mt_now M) (mt_undos M) U)) (x4_remembers_undoMany U)) := by simpa only [mgs_now, mg_now_undoMany, mg_now_undos, mc_now_undos, mc_now_undoMany, mm_now, mc_undos_undoMany, mm_undos, mm_undoMany] using hM
                        refine z_iinc hX dX4_merge_225 228 rfl 3 rfl (w := nI (j12 + 1)) (nI_1 j12) (Nat.le_of_ble_eq_true rfl) rfl (L' := [(0, .ref o), (1, .int (nI house.toNatClampNeg)), (2, .int (nI other.toNatClampNeg)), (3, .int (nI (j12 + 1))), (4, .int (if ¬ (j12 = house.toNatClampNeg) ∧ (¬ (j12 = other.toNatClampNeg)) then 1 else 0 : Int32))]) rfl ?_
                        refine z_goto hX dX4_merge_228 (tgt := 118) (by decide) ?_
                        refine z_sub [0, 1, 2, 3] rfl ?_
                        exact ih (j12 + 1) (by omega) _ hM
                      refine z_if_eqP hX (¬ (j12 = house.toNatClampNeg) ∧ (¬ (j12 = other.toNatClampNeg))) dX4_merge_198 201 rfl (tgt := 223) (by decide) (fun c24 => ?_) (fun c24 => ?_)
                      ·
                        refine z_iconst hX dX4_merge_223 224 rfl zki_0 ?_
                        exact z_eqL rfl (by first | (simp only [if_pos c1, if_pos c2, if_neg c3, if_neg c24] <;> rfl; done) | grind) J25
                      ·
                        refine z_aload_n hX dX4_merge_201 202 rfl (i := 0) rfl 0 rfl ?_
                        refine z_iload_n hX dX4_merge_202 203 rfl (i := 3) rfl 3 rfl ?_
                        refine z_iload_n hX dX4_merge_203 204 rfl (i := 1) rfl 1 rfl ?_
                        refine z_callVq hX cwX4_181 (w := .int ((upd (x4_merge_l118 house other (x4_merge_l74 house other (x4_merge_l29 house other (mt_now M) 3) 4) j12) (64 + (6 * house.toNatClampNeg) + j12) (if ¬ (j12 = house.toNatClampNeg) ∧ (¬ (j12 = other.toNatClampNeg)) then x4_held (((x4_merge_l118 house other (x4_merge_l74 house other (x4_merge_l29 house other (mt_now M) 3) 4) j12) (64 + (6 * house.toNatClampNeg) + j12)) + ((x4_merge_l118 house other (x4_merge_l74 house other (x4_merge_l29 house other (mt_now M) 3) 4) j12) (64 + (6 * other.toNatClampNeg) + j12))) 999 else 0 : Int32)) (64 + (6 * j12) + house.toNatClampNeg))) (met_X4_loanOf hG hM.1 j12 house.toNatClampNeg (by omega) (by omega)) (by simp only [mgs_now, mg_now_undoMany, mg_now_undos]) hM.1.o rfl rfl dX4_merge_204 207 rfl rfl rfl (Nat.le_of_ble_eq_true rfl) (by decide) ⟨Nat.zero_le _, Nat.zero_le _⟩ ?_
                        refine z_aload_n hX dX4_merge_207 208 rfl (i := 0) rfl 0 rfl ?_
                        refine z_iload_n hX dX4_merge_208 209 rfl (i := 3) rfl 3 rfl ?_
                        refine z_iload_n hX dX4_merge_209 210 rfl (i := 2) rfl 2 rfl ?_
                        refine z_callVq hX cwX4_181 (w := .int ((upd (x4_merge_l118 house other (x4_merge_l74 house other (x4_merge_l29 house other (mt_now M) 3) 4) j12) (64 + (6 * house.toNatClampNeg) + j12) (if ¬ (j12 = house.toNatClampNeg) ∧ (¬ (j12 = other.toNatClampNeg)) then x4_held (((x4_merge_l118 house other (x4_merge_l74 house other (x4_merge_l29 house other (mt_now M) 3) 4) j12) (64 + (6 * house.toNatClampNeg) + j12)) + ((x4_merge_l118 house other (x4_merge_l74 house other (x4_merge_l29 house other (mt_now M) 3) 4) j12) (64 + (6 * other.toNatClampNeg) + j12))) 999 else 0 : Int32)) (64 + (6 * j12) + other.toNatClampNeg))) (met_X4_loanOf hG hM.1 j12 other.toNatClampNeg (by omega) (by omega)) (by simp only [mgs_now, mg_now_undoMany, mg_now_undos]) hM.1.o rfl rfl dX4_merge_210 213 rfl rfl rfl (Nat.le_of_ble_eq_true rfl) (by decide) ⟨Nat.zero_le _, Nat.zero_le _⟩ ?_
                        refine z_iadd hX dX4_merge_213 214 rfl (w := ((upd (x4_merge_l118 house other (x4_merge_l74 house other (x4_merge_l29 house other (mt_now M) 3) 4) j12) (64 + (6 * house.toNatClampNeg) + j12) (if ¬ (j12 = house.toNatClampNeg) ∧ (¬ (j12 = other.toNatClampNeg)) then x4_held (((x4_merge_l118 house other (x4_merge_l74 house other (x4_merge_l29 house other (mt_now M) 3) 4) j12) (64 + (6 * house.toNatClampNeg) + j12)) + ((x4_merge_l118 house other (x4_merge_l74 house other (x4_merge_l29 house other (mt_now M) 3) 4) j12) (64 + (6 * other.toNatClampNeg) + j12))) 999 else 0 : Int32)) (64 + (6 * j12) + house.toNatClampNeg)) + ((upd (x4_merge_l118 house other (x4_merge_l74 house other (x4_merge_l29 house other (mt_now M) 3) 4) j12) (64 + (6 * house.toNatClampNeg) + j12) (if ¬ (j12 = house.toNatClampNeg) ∧ (¬ (j12 = other.toNatClampNeg)) then x4_held (((x4_merge_l118 house other (x4_merge_l74 house other (x4_merge_l29 house other (mt_now M) 3) 4) j12) (64 + (6 * house.toNatClampNeg) + j12)) + ((x4_merge_l118 house other (x4_merge_l74 house other (x4_merge_l29 house other (mt_now M) 3) 4) j12) (64 + (6 * other.toNatClampNeg) + j12))) 999 else 0 : Int32)) (64 + (6 * j12) + other.toNatClampNeg))) rfl ?_
                        refine z_sipush hX dX4_merge_214 217 rfl zks_999 ?_
                        refine z_callSp hX cwX4_246 (w := .int (x4_held (((upd (x4_merge_l118 house other (x4_merge_l74 house other (x4_merge_l29 house other (mt_now M) 3) 4) j12) (64 + (6 * house.toNatClampNeg) + j12) (if ¬ (j12 = house.toNatClampNeg) ∧ (¬ (j12 = other.toNatClampNeg)) then x4_held (((x4_merge_l118 house other (x4_merge_l74 house other (x4_merge_l29 house other (mt_now M) 3) 4) j12) (64 + (6 * house.toNatClampNeg) + j12)) + ((x4_merge_l118 house other (x4_merge_l74 house other (x4_merge_l29 house other (mt_now M) 3) 4) j12) (64 + (6 * other.toNatClampNeg) + j12))) 999 else 0 : Int32)) (64 + (6 * j12) + house.toNatClampNeg)) + ((upd (x4_merge_l118 house other (x4_merge_l74 house other (x4_merge_l29 house other (mt_now M) 3) 4) j12) (64 + (6 * house.toNatClampNeg) + j12) (if ¬ (j12 = house.toNatClampNeg) ∧ (¬ (j12 = other.toNatClampNeg)) then x4_held (((x4_merge_l118 house other (x4_merge_l74 house other (x4_merge_l29 house other (mt_now M) 3) 4) j12) (64 + (6 * house.toNatClampNeg) + j12)) + ((x4_merge_l118 house other (x4_merge_l74 house other (x4_merge_l29 house other (mt_now M) 3) 4) j12) (64 + (6 * other.toNatClampNeg) + j12))) 999 else 0 : Int32)) (64 + (6 * j12) + other.toNatClampNeg))) 999)) (met_X4_held hG (((upd (x4_merge_l118 house other (x4_merge_l74 house other (x4_merge_l29 house other (mt_now M) 3) 4) j12) (64 + (6 * house.toNatClampNeg) + j12) (if ¬ (j12 = house.toNatClampNeg) ∧ (¬ (j12 = other.toNatClampNeg)) then x4_held (((x4_merge_l118 house other (x4_merge_l74 house other (x4_merge_l29 house other (mt_now M) 3) 4) j12) (64 + (6 * house.toNatClampNeg) + j12)) + ((x4_merge_l118 house other (x4_merge_l74 house other (x4_merge_l29 house other (mt_now M) 3) 4) j12) (64 + (6 * other.toNatClampNeg) + j12))) 999 else 0 : Int32)) (64 + (6 * j12) + house.toNatClampNeg)) + ((upd (x4_merge_l118 house other (x4_merge_l74 house other (x4_merge_l29 house other (mt_now M) 3) 4) j12) (64 + (6 * house.toNatClampNeg) + j12) (if ¬ (j12 = house.toNatClampNeg) ∧ (¬ (j12 = other.toNatClampNeg)) then x4_held (((x4_merge_l118 house other (x4_merge_l74 house other (x4_merge_l29 house other (mt_now M) 3) 4) j12) (64 + (6 * house.toNatClampNeg) + j12)) + ((x4_merge_l118 house other (x4_merge_l74 house other (x4_merge_l29 house other (mt_now M) 3) 4) j12) (64 + (6 * other.toNatClampNeg) + j12))) 999 else 0 : Int32)) (64 + (6 * j12) + other.toNatClampNeg))) 999) dX4_merge_217 220 rfl rfl rfl (Nat.le_of_ble_eq_true rfl) (by decide) ⟨Nat.zero_le _, Nat.zero_le _⟩ ?_
                        refine z_goto hX dX4_merge_220 (tgt := 224) (by decide) ?_
                        exact z_eqL rfl (by first | (simp only [if_pos c1, if_pos c2, if_neg c3, if_pos c24] <;> rfl; done) | grind) J25
                    refine z_if_eqP hX (¬ (j12 = house.toNatClampNeg) ∧ (¬ (j12 = other.toNatClampNeg))) dX4_merge_156 159 rfl (tgt := 181) (by decide) (fun c22 => ?_) (fun c22 => ?_)
                    ·
                      refine z_iconst hX dX4_merge_181 182 rfl zki_0 ?_
                      exact z_eqL rfl (by first | (simp only [if_pos c1, if_pos c2, if_neg c3, if_neg c22] <;> rfl; done) | grind) J23
                    ·
                      refine z_aload_n hX dX4_merge_159 160 rfl (i := 0) rfl 0 rfl ?_
                      refine z_iload_n hX dX4_merge_160 161 rfl (i := 1) rfl 1 rfl ?_
                      refine z_iload_n hX dX4_merge_161 162 rfl (i := 3) rfl 3 rfl ?_
                      refine z_callVq hX cwX4_181 (w := .int ((x4_merge_l118 house other (x4_merge_l74 house other (x4_merge_l29 house other (mt_now M) 3) 4) j12) (64 + (6 * house.toNatClampNeg) + j12))) (met_X4_loanOf hG hM.1 house.toNatClampNeg j12 (by omega) (by omega)) (by simp only [mgs_now, mg_now_undoMany, mg_now_undos]) hM.1.o rfl rfl dX4_merge_162 165 rfl rfl rfl (Nat.le_of_ble_eq_true rfl) (by decide) ⟨Nat.zero_le _, Nat.zero_le _⟩ ?_
                      refine z_aload_n hX dX4_merge_165 166 rfl (i := 0) rfl 0 rfl ?_
                      refine z_iload_n hX dX4_merge_166 167 rfl (i := 2) rfl 2 rfl ?_
                      refine z_iload_n hX dX4_merge_167 168 rfl (i := 3) rfl 3 rfl ?_
                      refine z_callVq hX cwX4_181 (w := .int ((x4_merge_l118 house other (x4_merge_l74 house other (x4_merge_l29 house other (mt_now M) 3) 4) j12) (64 + (6 * other.toNatClampNeg) + j12))) (met_X4_loanOf hG hM.1 other.toNatClampNeg j12 (by omega) (by omega)) (by simp only [mgs_now, mg_now_undoMany, mg_now_undos]) hM.1.o rfl rfl dX4_merge_168 171 rfl rfl rfl (Nat.le_of_ble_eq_true rfl) (by decide) ⟨Nat.zero_le _, Nat.zero_le _⟩ ?_
                      refine z_iadd hX dX4_merge_171 172 rfl (w := ((x4_merge_l118 house other (x4_merge_l74 house other (x4_merge_l29 house other (mt_now M) 3) 4) j12) (64 + (6 * house.toNatClampNeg) + j12)) + ((x4_merge_l118 house other (x4_merge_l74 house other (x4_merge_l29 house other (mt_now M) 3) 4) j12) (64 + (6 * other.toNatClampNeg) + j12))) rfl ?_
                      refine z_sipush hX dX4_merge_172 175 rfl zks_999 ?_
                      refine z_callSp hX cwX4_246 (w := .int (x4_held (((x4_merge_l118 house other (x4_merge_l74 house other (x4_merge_l29 house other (mt_now M) 3) 4) j12) (64 + (6 * house.toNatClampNeg) + j12)) + ((x4_merge_l118 house other (x4_merge_l74 house other (x4_merge_l29 house other (mt_now M) 3) 4) j12) (64 + (6 * other.toNatClampNeg) + j12))) 999)) (met_X4_held hG (((x4_merge_l118 house other (x4_merge_l74 house other (x4_merge_l29 house other (mt_now M) 3) 4) j12) (64 + (6 * house.toNatClampNeg) + j12)) + ((x4_merge_l118 house other (x4_merge_l74 house other (x4_merge_l29 house other (mt_now M) 3) 4) j12) (64 + (6 * other.toNatClampNeg) + j12))) 999) dX4_merge_175 178 rfl rfl rfl (Nat.le_of_ble_eq_true rfl) (by decide) ⟨Nat.zero_le _, Nat.zero_le _⟩ ?_
                      refine z_goto hX dX4_merge_178 (tgt := 182) (by decide) ?_
                      exact z_eqL rfl (by first | (simp only [if_pos c1, if_pos c2, if_neg c3, if_pos c22] <;> rfl; done) | grind) J23
                  refine z_icmp_eqN hX j12 house.toNatClampNeg (by omega) (by omega) dX4_merge_126 129 rfl (tgt := 138) (by decide) (fun c20 => ?_) (fun c20 => ?_)
                  ·
                    refine z_iconst hX dX4_merge_138 139 rfl zki_0 ?_
                    exact z_eqL rfl (by first | (simp only [if_pos c1, if_pos c2, if_neg c3, if_pos c20] <;> rfl; done) | grind) J21
                  ·
                    refine z_iload_n hX dX4_merge_129 130 rfl (i := 3) rfl 3 rfl ?_
                    refine z_iload_n hX dX4_merge_130 131 rfl (i := 2) rfl 2 rfl ?_
                    refine z_icmp_eqN hX j12 other.toNatClampNeg (by omega) (by omega) dX4_merge_131 134 rfl (tgt := 138) (by decide) (fun c26 => ?_) (fun c26 => ?_)
                    ·
                      refine z_iconst hX dX4_merge_138 139 rfl zki_0 ?_
                      exact z_eqL rfl (by first | (simp only [if_pos c1, if_pos c2, if_neg c3, if_neg c20, if_pos c26] <;> rfl; done) | grind) J21
                    ·
                      refine z_iconst hX dX4_merge_134 135 rfl zki_1 ?_
                      refine z_goto hX dX4_merge_135 (tgt := 139) (by decide) ?_
                      exact z_eqL rfl (by first | (simp only [if_pos c1, if_pos c2, if_neg c3, if_neg c20, if_neg c26] <;> rfl; done) | grind) J21
            have hM : zMs g G0 G o (ms_undoMany (ms_undos (ms_now M (x4_merge_l118 house other (x4_merge_l74 house other (x4_merge_l29 house other (mt_now M) 3) 4) 0)) (x4_remembers_undos (mt_now M) (mt_undos M) U)) (x4_remembers_undoMany U)) := by simpa only [x4_merge_l118_0, me_now, mc_now_undos, mc_now_undoMany, mm_now, mc_undos_undoMany, mm_undos, mm_undoMany] using hM
            exact Lp15 6 0 (by omega) _ hM
          have Lp11 : ∀ k j8 : Nat, j8 + k = 4 → ∀ G : zHG, zMs g G0 G o (ms_undoMany (ms_undos (ms_now M (x4_merge_l74 house other (x4_merge_l29 house other (mt_now M) 3) j8)) (x4_remembers_undos (mt_now M) (mt_undos M) U)) (x4_remembers_undoMany U)) → ZW g X 0 0 G 74 [(0, .ref o), (1, .int (nI house.toNatClampNeg)), (2, .int (nI other.toNatClampNeg)), (3, .int (nI j8))] [] := by
            intro k
            induction k with
            | zero =>
              intro j8 hj8 G hM
              rw [show j8 = 4 from by omega] at hM ⊢
              refine z_iload_n hX dX4_merge_74 75 rfl (i := 3) rfl 3 rfl ?_
              refine z_iconst hX dX4_merge_75 76 rfl zki_4 ?_
              refine z_icmp_geN hX 4 4 (by omega) (by omega) dX4_merge_76 79 rfl (tgt := 116) (by decide) (fun c27 => ?_) (fun c27 => ?_)
              · exact E10 _ hM
              · exact absurd c27 (by omega)
            | succ k ih =>
              intro j8 hj8 G hM
              refine z_iload_n hX dX4_merge_74 75 rfl (i := 3) rfl 3 rfl ?_
              refine z_iconst hX dX4_merge_75 76 rfl zki_4 ?_
              refine z_icmp_geN hX j8 4 (by omega) (by omega) dX4_merge_76 79 rfl (tgt := 116) (by decide) (fun c28 => ?_) (fun c28 => ?_)
              · exact absurd c28 (by omega)
              ·
                refine z_aload_n hX dX4_merge_79 80 rfl (i := 0) rfl 0 rfl ?_
                refine z_getf hX fX4_7 hM.1.o dX4_merge_80 83 rfl (x := .ref (o + 1)) rfl ?_
                refine z_bipush hX dX4_merge_83 85 rfl zkb_40 ?_
                refine z_iconst hX dX4_merge_85 86 rfl zki_4 ?_
                refine z_iload_n hX dX4_merge_86 87 rfl (i := 1) rfl 1 rfl ?_
                refine z_imul hX dX4_merge_87 88 rfl (w := nI (4 * house.toNatClampNeg)) (pk_mul 4 house.toNatClampNeg) ?_
                refine z_iadd hX dX4_merge_88 89 rfl (w := nI (40 + (4 * house.toNatClampNeg))) (nI_add 40 (4 * house.toNatClampNeg)) ?_
                refine z_iload_n hX dX4_merge_89 90 rfl (i := 3) rfl 3 rfl ?_
                refine z_iadd hX dX4_merge_90 91 rfl (w := nI (40 + (4 * house.toNatClampNeg) + j8)) (nI_add (40 + (4 * house.toNatClampNeg)) j8) ?_
                refine z_aload_n hX dX4_merge_91 92 rfl (i := 0) rfl 0 rfl ?_
                refine z_iload_n hX dX4_merge_92 93 rfl (i := 1) rfl 1 rfl ?_
                refine z_iload_n hX dX4_merge_93 94 rfl (i := 3) rfl 3 rfl ?_
                refine z_callVq hX cwX4_72 (w := .int ((x4_merge_l74 house other (x4_merge_l29 house other (mt_now M) 3) j8) (40 + (4 * house.toNatClampNeg) + j8))) (met_X4_holds hG hM.1 house.toNatClampNeg j8 (by omega) (by omega)) (by simp only [mg_now_undos, mg_now_undoMany, mgs_now]) hM.1.o rfl rfl dX4_merge_94 97 rfl rfl rfl (Nat.le_of_ble_eq_true rfl) (by decide) ⟨Nat.zero_le _, Nat.zero_le _⟩ ?_
                refine z_aload_n hX dX4_merge_97 98 rfl (i := 0) rfl 0 rfl ?_
                refine z_iload_n hX dX4_merge_98 99 rfl (i := 2) rfl 2 rfl ?_
                refine z_iload_n hX dX4_merge_99 100 rfl (i := 3) rfl 3 rfl ?_
                refine z_callVq hX cwX4_72 (w := .int ((x4_merge_l74 house other (x4_merge_l29 house other (mt_now M) 3) j8) (40 + (4 * other.toNatClampNeg) + j8))) (met_X4_holds hG hM.1 other.toNatClampNeg j8 (by omega) (by omega)) (by simp only [mg_now_undos, mg_now_undoMany, mgs_now]) hM.1.o rfl rfl dX4_merge_100 103 rfl rfl rfl (Nat.le_of_ble_eq_true rfl) (by decide) ⟨Nat.zero_le _, Nat.zero_le _⟩ ?_
                refine z_iadd hX dX4_merge_103 104 rfl (w := ((x4_merge_l74 house other (x4_merge_l29 house other (mt_now M) 3) j8) (40 + (4 * house.toNatClampNeg) + j8)) + ((x4_merge_l74 house other (x4_merge_l29 house other (mt_now M) 3) j8) (40 + (4 * other.toNatClampNeg) + j8))) rfl ?_
                refine z_bipush hX dX4_merge_104 106 rfl zkb_60 ?_
                refine z_callSp hX cwX4_246 (w := .int (x4_held (((x4_merge_l74 house other (x4_merge_l29 house other (mt_now M) 3) j8) (40 + (4 * house.toNatClampNeg) + j8)) + ((x4_merge_l74 house other (x4_merge_l29 house other (mt_now M) 3) j8) (40 + (4 * other.toNatClampNeg) + j8))) 60)) (met_X4_held hG (((x4_merge_l74 house other (x4_merge_l29 house other (mt_now M) 3) j8) (40 + (4 * house.toNatClampNeg) + j8)) + ((x4_merge_l74 house other (x4_merge_l29 house other (mt_now M) 3) j8) (40 + (4 * other.toNatClampNeg) + j8))) 60) dX4_merge_106 109 rfl rfl rfl (Nat.le_of_ble_eq_true rfl) (by decide) ⟨Nat.zero_le _, Nat.zero_le _⟩ ?_
                refine m_ast_now hX hM (40 + (4 * house.toNatClampNeg) + j8) (by omega) dX4_merge_109 110 rfl (fun G hM => ?_)
                have hM : zMs g G0 G o (ms_undoMany (ms_undos (ms_now M (upd (x4_merge_l74 house other (x4_merge_l29 house other (mt_now M) 3) j8) (40 + (4 * house.toNatClampNeg) + j8) (x4_held (((x4_merge_l74 house other (x4_merge_l29 house other (mt_now M) 3) j8) (40 + (4 * house.toNatClampNeg) + j8)) + ((x4_merge_l74 house other (x4_merge_l29 house other (mt_now M) 3) j8) (40 + (4 * other.toNatClampNeg) + j8))) 60))) (x4_remembers_undos (mt_now M) (mt_undos M) U)) (x4_remembers_undoMany U)) := by simpa only [mg_now_undos, mg_now_undoMany, mgs_now, mc_now_undos, mc_now_undoMany, mm_now, mc_undos_undoMany, mm_undos, mm_undoMany] using hM
                refine z_iinc hX dX4_merge_110 113 rfl 3 rfl (w := nI (j8 + 1)) (nI_1 j8) (Nat.le_of_ble_eq_true rfl) rfl (L' := [(0, .ref o), (1, .int (nI house.toNatClampNeg)), (2, .int (nI other.toNatClampNeg)), (3, .int (nI (j8 + 1)))]) rfl ?_
                refine z_goto hX dX4_merge_113 (tgt := 74) (by decide) ?_
                exact ih (j8 + 1) (by omega) _ hM
          have hM : zMs g G0 G o (ms_undoMany (ms_undos (ms_now M (x4_merge_l74 house other (x4_merge_l29 house other (mt_now M) 3) 0)) (x4_remembers_undos (mt_now M) (mt_undos M) U)) (x4_remembers_undoMany U)) := by simpa only [x4_merge_l74_0, me_now, mc_now_undos, mc_now_undoMany, mm_now, mc_undos_undoMany, mm_undos, mm_undoMany] using hM
          exact Lp11 4 0 (by omega) _ hM
        have Lp7 : ∀ k j4 : Nat, j4 + k = 3 → ∀ G : zHG, zMs g G0 G o (ms_undoMany (ms_undos (ms_now M (x4_merge_l29 house other (mt_now M) j4)) (x4_remembers_undos (mt_now M) (mt_undos M) U)) (x4_remembers_undoMany U)) → ZW g X 0 0 G 29 [(0, .ref o), (1, .int (nI house.toNatClampNeg)), (2, .int (nI other.toNatClampNeg)), (3, .int (nI j4))] [] := by
          intro k
          induction k with
          | zero =>
            intro j4 hj4 G hM
            rw [show j4 = 3 from by omega] at hM ⊢
            refine z_iload_n hX dX4_merge_29 30 rfl (i := 3) rfl 3 rfl ?_
            refine z_iconst hX dX4_merge_30 31 rfl zki_2 ?_
            refine z_icmp_gtN hX 3 2 (by omega) (by omega) dX4_merge_31 34 rfl (tgt := 72) (by decide) (fun c29 => ?_) (fun c29 => ?_)
            · exact E6 _ hM
            · exact absurd c29 (by omega)
          | succ k ih =>
            intro j4 hj4 G hM
            refine z_iload_n hX dX4_merge_29 30 rfl (i := 3) rfl 3 rfl ?_
            refine z_iconst hX dX4_merge_30 31 rfl zki_2 ?_
            refine z_icmp_gtN hX j4 2 (by omega) (by omega) dX4_merge_31 34 rfl (tgt := 72) (by decide) (fun c30 => ?_) (fun c30 => ?_)
            · exact absurd c30 (by omega)
            ·
              refine z_aload_n hX dX4_merge_34 35 rfl (i := 0) rfl 0 rfl ?_
              refine z_getf hX fX4_7 hM.1.o dX4_merge_35 38 rfl (x := .ref (o + 1)) rfl ?_
              refine z_bipush hX dX4_merge_38 40 rfl zkb_10 ?_
              refine z_iconst hX dX4_merge_40 41 rfl zki_5 ?_
              refine z_iload_n hX dX4_merge_41 42 rfl (i := 1) rfl 1 rfl ?_
              refine z_imul hX dX4_merge_42 43 rfl (w := nI (5 * house.toNatClampNeg)) (pk_mul 5 house.toNatClampNeg) ?_
              refine z_iadd hX dX4_merge_43 44 rfl (w := nI (10 + (5 * house.toNatClampNeg))) (nI_add 10 (5 * house.toNatClampNeg)) ?_
              refine z_iload_n hX dX4_merge_44 45 rfl (i := 3) rfl 3 rfl ?_
              refine z_iadd hX dX4_merge_45 46 rfl (w := nI (10 + (5 * house.toNatClampNeg) + j4)) (nI_add (10 + (5 * house.toNatClampNeg)) j4) ?_
              refine z_aload_n hX dX4_merge_46 47 rfl (i := 0) rfl 0 rfl ?_
              refine z_iload_n hX dX4_merge_47 48 rfl (i := 1) rfl 1 rfl ?_
              refine z_iload_n hX dX4_merge_48 49 rfl (i := 3) rfl 3 rfl ?_
              refine z_callVq hX cwX4_175 (w := .int ((x4_merge_l29 house other (mt_now M) j4) (10 + (5 * house.toNatClampNeg) + j4))) (met_X4_houseOf hG hM.1 house.toNatClampNeg j4 (by omega) (by omega)) (by simp only [mg_now_undos, mg_now_undoMany, mgs_now]) hM.1.o rfl rfl dX4_merge_49 52 rfl rfl rfl (Nat.le_of_ble_eq_true rfl) (by decide) ⟨Nat.zero_le _, Nat.zero_le _⟩ ?_
              refine z_aload_n hX dX4_merge_52 53 rfl (i := 0) rfl 0 rfl ?_
              refine z_iload_n hX dX4_merge_53 54 rfl (i := 2) rfl 2 rfl ?_
              refine z_iload_n hX dX4_merge_54 55 rfl (i := 3) rfl 3 rfl ?_
              refine z_callVq hX cwX4_175 (w := .int ((x4_merge_l29 house other (mt_now M) j4) (10 + (5 * other.toNatClampNeg) + j4))) (met_X4_houseOf hG hM.1 other.toNatClampNeg j4 (by omega) (by omega)) (by simp only [mg_now_undos, mg_now_undoMany, mgs_now]) hM.1.o rfl rfl dX4_merge_55 58 rfl rfl rfl (Nat.le_of_ble_eq_true rfl) (by decide) ⟨Nat.zero_le _, Nat.zero_le _⟩ ?_
              refine z_iadd hX dX4_merge_58 59 rfl (w := ((x4_merge_l29 house other (mt_now M) j4) (10 + (5 * house.toNatClampNeg) + j4)) + ((x4_merge_l29 house other (mt_now M) j4) (10 + (5 * other.toNatClampNeg) + j4))) rfl ?_
              refine z_sipush hX dX4_merge_59 62 rfl zks_9999 ?_
              refine z_callSp hX cwX4_246 (w := .int (x4_held (((x4_merge_l29 house other (mt_now M) j4) (10 + (5 * house.toNatClampNeg) + j4)) + ((x4_merge_l29 house other (mt_now M) j4) (10 + (5 * other.toNatClampNeg) + j4))) 9999)) (met_X4_held hG (((x4_merge_l29 house other (mt_now M) j4) (10 + (5 * house.toNatClampNeg) + j4)) + ((x4_merge_l29 house other (mt_now M) j4) (10 + (5 * other.toNatClampNeg) + j4))) 9999) dX4_merge_62 65 rfl rfl rfl (Nat.le_of_ble_eq_true rfl) (by decide) ⟨Nat.zero_le _, Nat.zero_le _⟩ ?_
              refine m_ast_now hX hM (10 + (5 * house.toNatClampNeg) + j4) (by omega) dX4_merge_65 66 rfl (fun G hM => ?_)
              have hM : zMs g G0 G o (ms_undoMany (ms_undos (ms_now M (upd (x4_merge_l29 house other (mt_now M) j4) (10 + (5 * house.toNatClampNeg) + j4) (x4_held (((x4_merge_l29 house other (mt_now M) j4) (10 + (5 * house.toNatClampNeg) + j4)) + ((x4_merge_l29 house other (mt_now M) j4) (10 + (5 * other.toNatClampNeg) + j4))) 9999))) (x4_remembers_undos (mt_now M) (mt_undos M) U)) (x4_remembers_undoMany U)) := by simpa only [mg_now_undos, mg_now_undoMany, mgs_now, mc_now_undos, mc_now_undoMany, mm_now, mc_undos_undoMany, mm_undos, mm_undoMany] using hM
              refine z_iinc hX dX4_merge_66 69 rfl 3 rfl (w := nI (j4 + 1)) (nI_1 j4) (Nat.le_of_ble_eq_true rfl) rfl (L' := [(0, .ref o), (1, .int (nI house.toNatClampNeg)), (2, .int (nI other.toNatClampNeg)), (3, .int (nI (j4 + 1)))]) rfl ?_
              refine z_goto hX dX4_merge_69 (tgt := 29) (by decide) ?_
              exact ih (j4 + 1) (by omega) _ hM
        have hM : zMs g G0 G o (ms_undoMany (ms_undos (ms_now M (x4_merge_l29 house other (mt_now M) 0)) (x4_remembers_undos (mt_now M) (mt_undos M) U)) (x4_remembers_undoMany U)) := by simpa only [x4_merge_l29_0, me_now, mc_now_undos, mc_now_undoMany, mm_now, mc_undos_undoMany, mm_undos, mm_undoMany, me2_now, mg_now_undos, mg_now_undoMany] using hM
        exact Lp7 3 0 (by omega) _ hM
      ·
        refine z_iconst hX dX4_merge_21 22 rfl zki_m1 ?_
        exact z_iret hX hQ (Nat.zero_le _) (Nat.zero_le _) rfl dX4_merge_22 ⟨(by first | (simp only [if_pos c1, if_pos c2, if_pos c3] <;> rfl; done) | grind), (by first | (simpa only [if_pos c1, if_pos c2, if_pos c3, me_now, me_undos, me_undoMany] using hM) | (simpa only [if_pos c1, if_pos c2, if_pos c3, me2_now, me2_undos, me2_undoMany, mg_undos_now, mg_undoMany_now, mg_undoMany_undos] using hM))⟩
def x4_close (m_now : Nat → Int32) (H : Nat) (house : Int32) : Int32 := (if zin house H then (x4_goes_now (m_now) H house.toNatClampNeg) 1 else (-1) : Int32)
def x4_close_now (m_now : Nat → Int32) (H : Nat) (house : Int32) : Nat → Int32 := if zin house H then x4_goes_now (m_now) H house.toNatClampNeg else m_now
def x4_close_undos (m_now : Nat → Int32) (m_undos : Nat → Int32) (H : Nat) (U : Nat) (house : Int32) : Nat → Int32 := if zin house H then x4_remembers_undos (m_now) (m_undos) U else m_undos
def x4_close_undoMany (m_undoMany : Int32) (H : Nat) (U : Nat) (house : Int32) : Int32 := if zin house H then x4_remembers_undoMany U else m_undoMany
set_option maxHeartbeats 4000000 in
theorem met_X4_close {g : Zg} (hG : zG g) {G0 : zHG} {o : Nat} {M : MT} (hM : zMo g G0 o M) {A H : Nat} {K : Nat → Nat} (hN : zWf (mt_now M) A H K) {U : Nat} (hU : mt_undoMany M = nI U ∧ U ≤ 12) (house : Int32)    : ZM g yX4_close cX4_close 2 (some FieldType.int) 4 0 0 [.ref o, .int house] G0 (fun r G' => r = some (.int (x4_close (mt_now M) H house)) ∧ zMs g G0 G' o (ms_undoMany (ms_undos (ms_now M (x4_close_now (mt_now M) H house)) (x4_close_undos (mt_now M) (mt_undos M) H U house)) (x4_close_undoMany (mt_undoMany M) H U house))) := by
  unfold x4_close x4_close_now x4_close_undos x4_close_undoMany
  have hU2 := hU.2
  have hN2 := hN.2.1
  have hN4 := hN.2.2.2.1
  refine ZM_mk hG (by decide) (Nat.le_of_ble_eq_true rfl) ?_
  intro X hX hname hQ
  obtain ⟨G, hGe⟩ : ∃ z, z = G0 := ⟨_, rfl⟩
  have hM : zMs g G0 G o M := by rw [hGe]; exact zMs.rf hM
  show ZW g X 0 0 G0 0 [(0, .ref o), (1, .int house)] []
  rw [← hGe]
  refine z_aload_n hX dX4_close_0 1 rfl (i := 0) rfl 0 rfl ?_
  refine z_iload_n hX dX4_close_1 2 rfl (i := 1) rfl 1 rfl ?_
  refine z_callVp hX cwX4_237 (w := .int (if zin house H then 1 else 0 : Int32)) (met_X4_isHouse hG hM.1 hN house) hM.1.o rfl rfl dX4_close_2 5 rfl rfl rfl (Nat.le_of_ble_eq_true rfl) (by decide) ⟨Nat.zero_le _, Nat.zero_le _⟩ ?_
  refine z_if_neP hX (zin house H) dX4_close_5 8 rfl (tgt := 10) (by decide) (fun c1 => ?_) (fun c1 => ?_)
  ·
    have e_house := zin_eq c1
    have l_house := zin_lt c1
    refine z_eqL (L' := [(0, .ref o), (1, .int (nI house.toNatClampNeg))]) (st' := []) (by rw [← e_house]) (by first | rfl | rw [← e_house]) ?_
    refine z_aload_n hX dX4_close_10 11 rfl (i := 0) rfl 0 rfl ?_
    refine z_callVv hX cwX4_234 (met_X4_remembers hG hM.1 hU) hM.1.o rfl rfl dX4_close_11 14 rfl rfl rfl (Nat.le_of_ble_eq_true rfl) (by decide) ⟨Nat.zero_le _, Nat.zero_le _⟩ (fun G hhM => ?_)
    have hM := zMs.tr hM hhM
    have hM : zMs g G0 G o (ms_undoMany (ms_undos M (x4_remembers_undos (mt_now M) (mt_undos M) U)) (x4_remembers_undoMany U)) := hM
    refine z_aload_n hX dX4_close_14 15 rfl (i := 0) rfl 0 rfl ?_
    refine z_iload_n hX dX4_close_15 16 rfl (i := 1) rfl 1 rfl ?_
    refine z_callVv hX cwX4_249 (met_X4_goes hG hM.1 (zWf_eq ((mg_now_undoMany _ _).trans (mg_now_undos _ _)) hN) house.toNatClampNeg (by omega) (by first | assumption | omega)) hM.1.o rfl rfl dX4_close_16 19 rfl rfl rfl (Nat.le_of_ble_eq_true rfl) (by decide) ⟨Nat.zero_le _, Nat.zero_le _⟩ (fun G hhM => ?_)
    have hM := zMs.tr hM hhM
    have hM : zMs g G0 G o (ms_undoMany (ms_undos (ms_now M (x4_goes_now (mt_now M) H house.toNatClampNeg)) (x4_remembers_undos (mt_now M) (mt_undos M) U)) (x4_remembers_undoMany U)) := by simpa only [mg_now_undos, mg_now_undoMany, mc_now_undos, mc_now_undoMany, mm_now, mc_undos_undoMany, mm_undos, mm_undoMany] using hM
    refine z_aload_n hX dX4_close_19 20 rfl (i := 0) rfl 0 rfl ?_
    refine z_getf hX fX4_7 hM.1.o dX4_close_20 23 rfl (x := .ref (o + 1)) rfl ?_
    refine z_iconst hX dX4_close_23 24 rfl zki_1 ?_
    refine m_ald_now hX hM 1 (by omega) dX4_close_24 25 rfl (w := (x4_goes_now (mt_now M) H house.toNatClampNeg) 1) (congrFun ((mg_now_undoMany _ _).trans ((mg_now_undos _ _).trans (mgs_now _ _))) 1) ?_
    exact z_iret hX hQ (Nat.zero_le _) (Nat.zero_le _) rfl dX4_close_25 ⟨(by first | (simp only [if_pos c1] <;> rfl; done) | grind), (by first | (simpa only [if_pos c1, me_now, me_undos, me_undoMany] using hM) | (simpa only [if_pos c1, me2_now, me2_undos, me2_undoMany, mg_undos_now, mg_undoMany_now, mg_undoMany_undos] using hM))⟩
  ·
    refine z_iconst hX dX4_close_8 9 rfl zki_m1 ?_
    exact z_iret hX hQ (Nat.zero_le _) (Nat.zero_le _) rfl dX4_close_9 ⟨(by first | (simp only [if_neg c1] <;> rfl; done) | grind), (by first | (simpa only [if_neg c1, me_now, me_undos, me_undoMany] using hM) | (simpa only [if_neg c1, me2_now, me2_undos, me2_undoMany, mg_undos_now, mg_undoMany_now, mg_undoMany_undos] using hM))⟩
def x4_undo_l21 (m_undos : Nat → Int32) (U : Nat) (ini : Nat → Int32) (k : Nat) : Nat → Int32 := zfold k (fun j2 cj2 => upd cj2 j2 (m_undos (139 * (U - 1) + j2))) ini
theorem x4_undo_l21_0 (m_undos : Nat → Int32) (U : Nat) (ini : Nat → Int32) : x4_undo_l21 m_undos U ini 0 = ini := (zfold_0 _ _).trans (Eq.refl _)
def x4_undo (U : Nat) : Int32 := (if U = 0 then (-1) else nI (U - 1) : Int32)
def x4_undo_now (m_now : Nat → Int32) (m_undos : Nat → Int32) (U : Nat) : Nat → Int32 := if U = 0 then m_now else x4_undo_l21 (m_undos) U (m_now) 139
def x4_undo_undoMany (m_undoMany : Int32) (U : Nat) : Int32 := if U = 0 then m_undoMany else nI (U - 1)
set_option maxHeartbeats 4000000 in
theorem met_X4_undo {g : Zg} (hG : zG g) {G0 : zHG} {o : Nat} {M : MT} (hM : zMo g G0 o M) {U : Nat} (hU : mt_undoMany M = nI U ∧ U ≤ 12)     : ZM g yX4_undo cX4_undo 2 (some FieldType.int) 1 0 0 [.ref o] G0 (fun r G' => r = some (.int (x4_undo U)) ∧ zMs g G0 G' o (ms_undoMany (ms_now M (x4_undo_now (mt_now M) (mt_undos M) U)) (x4_undo_undoMany (mt_undoMany M) U))) := by
  unfold x4_undo x4_undo_now x4_undo_undoMany
  have hU2 := hU.2
  refine ZM_mk hG (by decide) (Nat.le_of_ble_eq_true rfl) ?_
  intro X hX hname hQ
  obtain ⟨G, hGe⟩ : ∃ z, z = G0 := ⟨_, rfl⟩
  have hM : zMs g G0 G o M := by rw [hGe]; exact zMs.rf hM
  show ZW g X 0 0 G0 0 [(0, .ref o)] []
  rw [← hGe]
  refine z_aload_n hX dX4_undo_0 1 rfl (i := 0) rfl 0 rfl ?_
  refine m_get_undoMany hX hM fX4_152 dX4_undo_1 4 rfl (w := nI U) hU.1 ?_
  refine z_if_neN hX U (by omega) dX4_undo_4 7 rfl (tgt := 9) (by decide) (fun c1 => ?_) (fun c1 => ?_)
  ·
    refine z_aload_n hX dX4_undo_9 10 rfl (i := 0) rfl 0 rfl ?_
    refine z_dup hX dX4_undo_10 11 rfl rfl ?_
    refine m_get_undoMany hX hM fX4_152 dX4_undo_11 14 rfl (w := nI U) hU.1 ?_
    refine z_iconst hX dX4_undo_14 15 rfl zki_1 ?_
    refine z_isub hX dX4_undo_15 16 rfl (w := nI (U - 1)) (pk_sub (a := U) (b := 1) (by omega)) ?_
    refine m_put_undoMany hX hM fX4_152 dX4_undo_16 19 rfl (fun G hM => ?_)
    have hM : zMs g G0 G o (ms_undoMany M (nI (U - 1))) := hM
    refine z_iconst hX dX4_undo_19 20 rfl zki_0 ?_
    refine z_istore_n hX dX4_undo_20 21 rfl (i := 1) rfl (Nat.le_of_ble_eq_true rfl) rfl (L' := [(0, .ref o), (1, .int 0)]) rfl ?_
    have E3 : ∀ G : zHG, zMs g G0 G o (ms_undoMany (ms_now M (x4_undo_l21 (mt_undos M) U (mt_now M) 139)) (nI (U - 1))) → ZW g X 0 0 G 55 [(0, .ref o), (1, .int (nI 139))] [] := by
      intro G hM
      refine z_aload_n hX dX4_undo_55 56 rfl (i := 0) rfl 0 rfl ?_
      refine m_get_undoMany hX hM fX4_152 dX4_undo_56 59 rfl (w := nI (U - 1)) (mgs_undoMany _ _) ?_
      exact z_iret hX hQ (Nat.zero_le _) (Nat.zero_le _) rfl dX4_undo_59 ⟨(by first | (simp only [if_neg c1] <;> rfl; done) | grind), (by first | (simpa only [if_neg c1, me_now, me_undoMany] using hM) | (simpa only [if_neg c1, me2_now, me2_undoMany, mg_undoMany_now] using hM))⟩
    have Lp4 : ∀ k j2 : Nat, j2 + k = 139 → ∀ G : zHG, zMs g G0 G o (ms_undoMany (ms_now M (x4_undo_l21 (mt_undos M) U (mt_now M) j2)) (nI (U - 1))) → ZW g X 0 0 G 21 [(0, .ref o), (1, .int (nI j2))] [] := by
      intro k
      induction k with
      | zero =>
        intro j2 hj2 G hM
        rw [show j2 = 139 from by omega] at hM ⊢
        refine z_iload_n hX dX4_undo_21 22 rfl (i := 1) rfl 1 rfl ?_
        refine z_sipush hX dX4_undo_22 25 rfl zks_139 ?_
        refine z_icmp_geN hX 139 139 (by omega) (by omega) dX4_undo_25 28 rfl (tgt := 55) (by decide) (fun c5 => ?_) (fun c5 => ?_)
        · exact E3 _ hM
        · exact absurd c5 (by omega)
      | succ k ih =>
        intro j2 hj2 G hM
        refine z_iload_n hX dX4_undo_21 22 rfl (i := 1) rfl 1 rfl ?_
        refine z_sipush hX dX4_undo_22 25 rfl zks_139 ?_
        refine z_icmp_geN hX j2 139 (by omega) (by omega) dX4_undo_25 28 rfl (tgt := 55) (by decide) (fun c6 => ?_) (fun c6 => ?_)
        · exact absurd c6 (by omega)
        ·
          refine z_aload_n hX dX4_undo_28 29 rfl (i := 0) rfl 0 rfl ?_
          refine z_getf hX fX4_7 hM.1.o dX4_undo_29 32 rfl (x := .ref (o + 1)) rfl ?_
          refine z_iload_n hX dX4_undo_32 33 rfl (i := 1) rfl 1 rfl ?_
          refine z_aload_n hX dX4_undo_33 34 rfl (i := 0) rfl 0 rfl ?_
          refine z_getf hX fX4_16 hM.1.o dX4_undo_34 37 rfl (x := .ref (o + 3)) rfl ?_
          refine z_sipush hX dX4_undo_37 40 rfl zks_139 ?_
          refine z_aload_n hX dX4_undo_40 41 rfl (i := 0) rfl 0 rfl ?_
          refine m_get_undoMany hX hM fX4_152 dX4_undo_41 44 rfl (w := nI (U - 1)) (mgs_undoMany _ _) ?_
          refine z_imul hX dX4_undo_44 45 rfl (w := nI (139 * (U - 1))) (pk_mul 139 (U - 1)) ?_
          refine z_iload_n hX dX4_undo_45 46 rfl (i := 1) rfl 1 rfl ?_
          refine z_iadd hX dX4_undo_46 47 rfl (w := nI (139 * (U - 1) + j2)) (nI_add (139 * (U - 1)) j2) ?_
          refine m_ald_undos hX hM (139 * (U - 1) + j2) (by omega) dX4_undo_47 48 rfl (w := mt_undos M (139 * (U - 1) + j2)) (congrFun ((mg_undos_undoMany _ _).trans (mg_undos_now _ _)) (139 * (U - 1) + j2)) ?_
          refine m_ast_now hX hM j2 (by omega) dX4_undo_48 49 rfl (fun G hM => ?_)
          have hM : zMs g G0 G o (ms_undoMany (ms_now M (upd (x4_undo_l21 (mt_undos M) U (mt_now M) j2) j2 (mt_undos M (139 * (U - 1) + j2)))) (nI (U - 1))) := by simpa only [mg_now_undoMany, mgs_now, mc_now_undoMany, mm_now, mm_undoMany] using hM
          refine z_iinc hX dX4_undo_49 52 rfl 1 rfl (w := nI (j2 + 1)) (nI_1 j2) (Nat.le_of_ble_eq_true rfl) rfl (L' := [(0, .ref o), (1, .int (nI (j2 + 1)))]) rfl ?_
          refine z_goto hX dX4_undo_52 (tgt := 21) (by decide) ?_
          exact ih (j2 + 1) (by omega) _ hM
    have hM : zMs g G0 G o (ms_undoMany (ms_now M (x4_undo_l21 (mt_undos M) U (mt_now M) 0)) (nI (U - 1))) := by simpa only [x4_undo_l21_0, me_now, mc_now_undoMany, mm_now, mm_undoMany, me2_now, mg_now_undoMany] using hM
    exact Lp4 139 0 (by omega) _ hM
  ·
    refine z_iconst hX dX4_undo_7 8 rfl zki_m1 ?_
    exact z_iret hX hQ (Nat.zero_le _) (Nat.zero_le _) rfl dX4_undo_8 ⟨(by first | (simp only [if_pos c1] <;> rfl; done) | grind), (by first | (simpa only [if_pos c1, me_now, me_undoMany] using hM) | (simpa only [if_pos c1, me2_now, me2_undoMany, mg_undoMany_now] using hM))⟩
