set_option maxRecDepth 100000
theorem zushr1 {n : Nat} (h : n < 2147483648) : ((nI n).toUInt32 >>> ((1 : Int32).toUInt32 &&& Int32.toUInt32 31)).toInt32 = nI (n / 2) := by
  have e : ((1 : Int32).toUInt32 &&& Int32.toUInt32 31) = 1 := by decide
  rw [e]
  apply Int32.toBitVec_inj.mp
  apply BitVec.eq_of_toNat_eq
  show ((BitVec.ofNat 32 n) >>> (1 : Nat)).toNat = (BitVec.ofNat 32 (n / 2)).toNat
  rw [BitVec.toNat_ushiftRight, BitVec.toNat_ofNat, BitVec.toNat_ofNat, Nat.shiftRight_eq_div_pow]
  omega
noncomputable def x0_coinsFor_s33 (N : Nat → Int32) (tk : Nat → Int32) (cp : Nat → Int32) (sh : Nat → Int32) (fc : Int32) (A : Nat) (H : Nat) (K : Nat → Nat) (house : Int32) : Nat → Nat → Nat → Nat
  | 0, lo, _ => lo
  | m + 1, lo, hi => if lo < hi then x0_coinsFor_s33 N tk cp sh fc A H K house m (if x0_isSafe N tk cp sh fc A H K house.toNatClampNeg (nI ((lo + hi) / 2)) then lo else (lo + hi) / 2 + 1) (if x0_isSafe N tk cp sh fc A H K house.toNatClampNeg (nI ((lo + hi) / 2)) then (lo + hi) / 2 else hi) else lo
theorem x0_coinsFor_s33_d (N : Nat → Int32) (tk : Nat → Int32) (cp : Nat → Int32) (sh : Nat → Int32) (fc : Int32) (A : Nat) (H : Nat) (K : Nat → Nat) (house : Int32) (m lo hi : Nat) (h : ¬ lo < hi) : x0_coinsFor_s33 N tk cp sh fc A H K house m lo hi = lo := by
  cases m with
  | zero => rfl
  | succ m => unfold x0_coinsFor_s33; rw [if_neg h]
theorem x0_coinsFor_s33_s (N : Nat → Int32) (tk : Nat → Int32) (cp : Nat → Int32) (sh : Nat → Int32) (fc : Int32) (A : Nat) (H : Nat) (K : Nat → Nat) (house : Int32) (m lo hi : Nat) (h : lo < hi) : x0_coinsFor_s33 N tk cp sh fc A H K house (m + 1) lo hi = x0_coinsFor_s33 N tk cp sh fc A H K house m (if x0_isSafe N tk cp sh fc A H K house.toNatClampNeg (nI ((lo + hi) / 2)) then lo else (lo + hi) / 2 + 1) (if x0_isSafe N tk cp sh fc A H K house.toNatClampNeg (nI ((lo + hi) / 2)) then (lo + hi) / 2 else hi) := by
  rw [x0_coinsFor_s33, if_pos h]
noncomputable def x0_coinsFor (N : Nat → Int32) (tk : Nat → Int32) (cp : Nat → Int32) (sh : Nat → Int32) (fc : Int32) (A : Nat) (H : Nat) (K : Nat → Nat) (house : Int32) : Int32 := (if zin house H then (if x0_isSafe N tk cp sh fc A H K house.toNatClampNeg 9999 then nI (x0_coinsFor_s33 N tk cp sh fc A H K house 14 0 9999) else (-2) : Int32) else (-1) : Int32)
set_option maxHeartbeats 4000000 in
theorem met_X0_coinsFor {g : Zg} (hG : zG g) {G0 : zHG} {xq x dq tp : Nat} {bg : Value} {bl tpd : Int32} {q t : Nat} {B : Nat → Nat → Nat} {N tk cp sh : Nat → Int32} {fc gn : Int32} (hx : zFx G0 xq x t dq tp bg bl tpd) (ht : zTw g G0 q t B N tk cp sh fc gn) {A H : Nat} {K : Nat → Nat} (hN : zWf N A H K) (ne_x_t_00 : (xq, 0) ≠ (q, 0)) (ne_x_t_01 : (xq, 0) ≠ (q, 1)) (ne_x_t_02 : (xq, 0) ≠ (q, 2)) (house : Int32)  : ZM g yX0_coinsFor cX0_coinsFor 5 (some FieldType.int) 11 75 240 [.ref x, .int house] G0 (fun r G' => r = some (.int (x0_coinsFor N tk cp sh fc A H K house)) ∧ (zFx G' xq x t dq tp bg bl tpd ∧ (∃ gnE : Int32, zTw g G' q t B N tk cp sh fc gnE) ∧ zFrK [(q, 0), (q, 1), (q, 2)] G0 G')) := by
  unfold x0_coinsFor
  have hN2 := hN.2.1
  have hN4 := hN.2.2.2.1
  refine ZM_mk hG (by decide) (Nat.le_of_ble_eq_true rfl) ?_
  intro X hX hname hQ
  obtain ⟨G, hGe⟩ : ∃ z, z = G0 := ⟨_, rfl⟩
  have hM : zFx G xq x t dq tp bg bl tpd ∧ zTw g G q t B N tk cp sh fc gn ∧ zFrK [(q, 0), (q, 1), (q, 2)] G0 G := by rw [hGe]; exact ⟨hx, ht, zFrK.rf⟩
  show ZW g X 0 0 G0 0 [(0, .ref x), (1, .int house)] []
  rw [← hGe]
  refine z_aload_n hX dX0_coinsFor_0 1 rfl (i := 0) rfl 0 rfl ?_
  refine z_getf hX fX0_10 hM.1.o dX0_coinsFor_1 4 rfl (x := .ref t) rfl ?_
  refine z_iload_n hX dX0_coinsFor_4 5 rfl (i := 1) rfl 1 rfl ?_
  obtain ⟨opr, os1, os2, of1, of2, ob1, ob2, hT9, h19, h29⟩ := id hM.2.1
  refine z_callVp hX cwX0_72 (w := .int (if zin house H then 1 else 0 : Int32)) (met_X1_isHouse hG hT9 hN house) hT9.o rfl rfl dX0_coinsFor_5 8 rfl rfl rfl (Nat.le_of_ble_eq_true rfl) (by decide) ⟨Nat.zero_le _, Nat.zero_le _⟩ ?_
  refine z_if_neP hX (zin house H) dX0_coinsFor_8 11 rfl (tgt := 13) (by decide) (fun c1 => ?_) (fun c1 => ?_)
  ·
    have e_house := zin_eq c1
    have l_house := zin_lt c1
    refine z_eqL (L' := [(0, .ref x), (1, .int (nI house.toNatClampNeg))]) (st' := []) (by rw [← e_house]) (by first | rfl | rw [← e_house]) ?_
    refine z_aload_n hX dX0_coinsFor_13 14 rfl (i := 0) rfl 0 rfl ?_
    refine z_iload_n hX dX0_coinsFor_14 15 rfl (i := 1) rfl 1 rfl ?_
    refine z_sipush hX dX0_coinsFor_15 18 rfl zks_9999 ?_
    refine z_callV hX cwX0_306 (met_X0_isSafe hG hM.1 hM.2.1 hN ne_x_t_00 ne_x_t_01 ne_x_t_02 house.toNatClampNeg 9999 (by omega)) hM.1.o rfl rfl dX0_coinsFor_18 21 rfl rfl rfl (Nat.le_of_ble_eq_true rfl) (by decide) ⟨by omega, by omega⟩ (fun r G hP => ?_)
    obtain ⟨rfl, hP⟩ := hP
    have hM : zFx G xq x t dq tp bg bl tpd ∧ zTw g G q t B N tk cp sh fc (x0_isSafe_gn N tk cp sh fc A H K house.toNatClampNeg 9999) ∧ zFrK [(q, 0), (q, 1), (q, 2)] G0 G := ⟨hP.1, hP.2.1, hM.2.2.stepL hP.2.2 (zml1 (Or.inl List.mem_cons_self) (zml1 (Or.inl (List.mem_cons_of_mem _ List.mem_cons_self)) (zml1 (Or.inl (List.mem_cons_of_mem _ (List.mem_cons_of_mem _ List.mem_cons_self))) zml0)))⟩
    show ZW g X 5 16 G 21 [(0, .ref x), (1, .int (nI house.toNatClampNeg))] [.int (if x0_isSafe N tk cp sh fc A H K house.toNatClampNeg 9999 then 1 else 0 : Int32)]
    refine z_if_neP hX (x0_isSafe N tk cp sh fc A H K house.toNatClampNeg 9999) dX0_coinsFor_21 24 rfl (tgt := 27) (by decide) (fun c2 => ?_) (fun c2 => ?_)
    ·
      refine z_iconst hX dX0_coinsFor_27 28 rfl zki_0 ?_
      refine z_istore_n hX dX0_coinsFor_28 29 rfl (i := 2) rfl (Nat.le_of_ble_eq_true rfl) rfl (L' := [(0, .ref x), (1, .int (nI house.toNatClampNeg)), (2, .int 0)]) rfl ?_
      refine z_sipush hX dX0_coinsFor_29 32 rfl zks_9999 ?_
      refine z_istore_n hX dX0_coinsFor_32 33 rfl (i := 3) rfl (Nat.le_of_ble_eq_true rfl) rfl (L' := [(0, .ref x), (1, .int (nI house.toNatClampNeg)), (2, .int 0), (3, .int 9999)]) rfl ?_
      obtain ⟨Z9, hZ9⟩ : ∃ z, z = (x0_coinsFor_s33 N tk cp sh fc A H K house 14 0 9999) := ⟨_, rfl⟩
      have E3 : ∀ (gnE : Int32) (G : zHG), zFx G xq x t dq tp bg bl tpd ∧ zTw g G q t B N tk cp sh fc gnE ∧ zFrK [(q, 0), (q, 1), (q, 2)] G0 G → ZW g X 75 240 G 69 [(0, .ref x), (1, .int (nI house.toNatClampNeg)), (2, .int (nI (x0_coinsFor_s33 N tk cp sh fc A H K house 14 0 9999)))] [] := by
        intro gnE G hM
        refine z_iload_n hX dX0_coinsFor_69 70 rfl (i := 2) rfl 2 rfl ?_
        exact z_iret hX hQ (by omega) (by omega) rfl dX0_coinsFor_70 ⟨(by first | (simp only [if_pos c1, if_pos c2] <;> rfl; done) | grind), hM.1, ⟨_, hM.2.1⟩, hM.2.2⟩
      have Lp4 : ∀ m lo hi : Nat, m ≤ 14 → hi < lo + 2 ^ m → lo ≤ hi → hi ≤ 9999 → x0_coinsFor_s33 N tk cp sh fc A H K house m lo hi = (x0_coinsFor_s33 N tk cp sh fc A H K house 14 0 9999) → ∀ (gnA : Int32) (G : zHG), zFx G xq x t dq tp bg bl tpd ∧ zTw g G q t B N tk cp sh fc gnA ∧ zFrK [(q, 0), (q, 1), (q, 2)] G0 G → ZW g X (5 + 5 * (14 - m)) (16 + 16 * (14 - m)) G 33 [(0, .ref x), (1, .int (nI house.toNatClampNeg)), (2, .int (nI lo)), (3, .int (nI hi))] [] := by
        intro m
        induction m with
        | zero =>
          intro lo hi hm hp hle htop hz gnA G hM
          have hp : hi < lo + 1 := hp
          refine z_iload_n hX dX0_coinsFor_33 34 rfl (i := 2) rfl 2 rfl ?_
          refine z_iload_n hX dX0_coinsFor_34 35 rfl (i := 3) rfl 3 rfl ?_
          refine z_icmp_geN hX lo hi (by omega) (by omega) dX0_coinsFor_35 38 rfl (tgt := 69) (by decide) (fun c5 => ?_) (fun c5 => ?_)
          ·
            have hz2 := (x0_coinsFor_s33_d N tk cp sh fc A H K house 0 lo hi (by omega)).symm.trans hz
            rw [hz2]
            refine z_widen (u' := 75) (v' := 240) (by omega) (by omega) ?_
            refine z_sub [0, 1, 2] rfl ?_
            exact E3 gnA G hM
          · omega
        | succ m ih =>
          intro lo hi hm hp hle htop hz gnA G hM
          refine z_iload_n hX dX0_coinsFor_33 34 rfl (i := 2) rfl 2 rfl ?_
          refine z_iload_n hX dX0_coinsFor_34 35 rfl (i := 3) rfl 3 rfl ?_
          refine z_icmp_geN hX lo hi (by omega) (by omega) dX0_coinsFor_35 38 rfl (tgt := 69) (by decide) (fun c6 => ?_) (fun c6 => ?_)
          ·
            have hz2 := (x0_coinsFor_s33_d N tk cp sh fc A H K house (m + 1) lo hi (by omega)).symm.trans hz
            rw [hz2]
            refine z_widen (u' := 75) (v' := 240) (by omega) (by omega) ?_
            refine z_sub [0, 1, 2] rfl ?_
            exact E3 gnA G hM
          ·
            have hp2 : 2 ^ (m + 1) = 2 * 2 ^ m := by rw [Nat.pow_succ]; omega
            rw [hp2] at hp
            have hz3 := (x0_coinsFor_s33_s N tk cp sh fc A H K house m lo hi (by omega)).symm.trans hz
            refine z_iload_n hX dX0_coinsFor_38 39 rfl (i := 2) rfl 2 rfl ?_
            refine z_iload_n hX dX0_coinsFor_39 40 rfl (i := 3) rfl 3 rfl ?_
            refine z_iadd hX dX0_coinsFor_40 41 rfl (w := nI (lo + hi)) (nI_add lo hi) ?_
            refine z_iconst hX dX0_coinsFor_41 42 rfl zki_1 ?_
            refine z_iushr hX dX0_coinsFor_42 43 rfl (w := nI ((lo + hi) / 2)) (zushr1 (by omega)) ?_
            refine z_istore hX dX0_coinsFor_43 45 rfl (Nat.le_of_ble_eq_true rfl) rfl (L' := [(0, .ref x), (1, .int (nI house.toNatClampNeg)), (2, .int (nI lo)), (3, .int (nI hi)), (4, .int (nI ((lo + hi) / 2)))]) rfl ?_
            refine z_aload_n hX dX0_coinsFor_45 46 rfl (i := 0) rfl 0 rfl ?_
            refine z_iload_n hX dX0_coinsFor_46 47 rfl (i := 1) rfl 1 rfl ?_
            refine z_iload hX dX0_coinsFor_47 49 rfl 4 rfl ?_
            refine z_callV hX cwX0_306 (met_X0_isSafe hG hM.1 hM.2.1 hN ne_x_t_00 ne_x_t_01 ne_x_t_02 house.toNatClampNeg (nI ((lo + hi) / 2)) (by omega)) hM.1.o rfl rfl dX0_coinsFor_49 52 rfl rfl rfl (Nat.le_of_ble_eq_true rfl) (by decide) ⟨by omega, by omega⟩ (fun r G hP => ?_)
            obtain ⟨rfl, hP⟩ := hP
            have hM : zFx G xq x t dq tp bg bl tpd ∧ zTw g G q t B N tk cp sh fc (x0_isSafe_gn N tk cp sh fc A H K house.toNatClampNeg (nI ((lo + hi) / 2))) ∧ zFrK [(q, 0), (q, 1), (q, 2)] G0 G := ⟨hP.1, hP.2.1, hM.2.2.stepL hP.2.2 (zml1 (Or.inl List.mem_cons_self) (zml1 (Or.inl (List.mem_cons_of_mem _ List.mem_cons_self)) (zml1 (Or.inl (List.mem_cons_of_mem _ (List.mem_cons_of_mem _ List.mem_cons_self))) zml0)))⟩
            show ZW g X (5 + 5 * (14 - (m + 1)) + 5) (16 + 16 * (14 - (m + 1)) + 16) G 52 [(0, .ref x), (1, .int (nI house.toNatClampNeg)), (2, .int (nI lo)), (3, .int (nI hi)), (4, .int (nI ((lo + hi) / 2)))] [.int (if x0_isSafe N tk cp sh fc A H K house.toNatClampNeg (nI ((lo + hi) / 2)) then 1 else 0 : Int32)]
            refine z_if_eqP hX (x0_isSafe N tk cp sh fc A H K house.toNatClampNeg (nI ((lo + hi) / 2))) dX0_coinsFor_52 55 rfl (tgt := 61) (by decide) (fun c7 => ?_) (fun c7 => ?_)
            ·
              refine z_iload hX dX0_coinsFor_61 63 rfl 4 rfl ?_
              refine z_iconst hX dX0_coinsFor_63 64 rfl zki_1 ?_
              refine z_iadd hX dX0_coinsFor_64 65 rfl (w := nI ((lo + hi) / 2 + 1)) (nI_add ((lo + hi) / 2) 1) ?_
              refine z_istore_n hX dX0_coinsFor_65 66 rfl (i := 2) rfl (Nat.le_of_ble_eq_true rfl) rfl (L' := [(0, .ref x), (1, .int (nI house.toNatClampNeg)), (2, .int (nI ((lo + hi) / 2 + 1))), (3, .int (nI hi)), (4, .int (nI ((lo + hi) / 2)))]) rfl ?_
              refine z_goto hX dX0_coinsFor_66 (tgt := 33) (by decide) ?_
              simp only [if_neg c7] at hz3
              refine z_sub [0, 1, 2, 3] rfl ?_
              refine z_widen (u' := 5 + 5 * (14 - m)) (v' := 16 + 16 * (14 - m)) (by omega) (by omega) ?_
              exact ih ((lo + hi) / 2 + 1) hi (by omega) (by omega) (by omega) (by omega) hz3 _ G hM
            ·
              refine z_iload hX dX0_coinsFor_55 57 rfl 4 rfl ?_
              refine z_istore_n hX dX0_coinsFor_57 58 rfl (i := 3) rfl (Nat.le_of_ble_eq_true rfl) rfl (L' := [(0, .ref x), (1, .int (nI house.toNatClampNeg)), (2, .int (nI lo)), (3, .int (nI ((lo + hi) / 2))), (4, .int (nI ((lo + hi) / 2)))]) rfl ?_
              refine z_goto hX dX0_coinsFor_58 (tgt := 66) (by decide) ?_
              refine z_goto hX dX0_coinsFor_66 (tgt := 33) (by decide) ?_
              simp only [if_pos c7] at hz3
              refine z_sub [0, 1, 2, 3] rfl ?_
              refine z_widen (u' := 5 + 5 * (14 - m)) (v' := 16 + 16 * (14 - m)) (by omega) (by omega) ?_
              exact ih lo ((lo + hi) / 2) (by omega) (by omega) (by omega) (by omega) hz3 _ G hM
      refine z_widen (u' := 5 + 5 * (14 - 14)) (v' := 16 + 16 * (14 - 14)) (by omega) (by omega) ?_
      exact Lp4 14 0 9999 (by omega) (by omega) (by omega) (by omega) rfl _ G hM
    ·
      refine z_bipush hX dX0_coinsFor_24 26 rfl zkb_m2 ?_
      exact z_iret hX hQ (by omega) (by omega) rfl dX0_coinsFor_26 ⟨(by first | (simp only [if_pos c1, if_neg c2] <;> rfl; done) | grind), hM.1, ⟨_, hM.2.1⟩, hM.2.2⟩
  ·
    refine z_iconst hX dX0_coinsFor_11 12 rfl zki_m1 ?_
    exact z_iret hX hQ (by omega) (by omega) rfl dX0_coinsFor_12 ⟨(by first | (simp only [if_neg c1] <;> rfl; done) | grind), hM.1, ⟨_, hM.2.1⟩, hM.2.2⟩
noncomputable def x0_room_s39 (N : Nat → Int32) (tk : Nat → Int32) (cp : Nat → Int32) (sh : Nat → Int32) (fc : Int32) (A : Nat) (H : Nat) (K : Nat → Nat) (house : Int32) : Nat → Nat → Nat → Nat
  | 0, lo, _ => lo
  | m + 1, lo, hi => if lo < hi then x0_room_s39 N tk cp sh fc A H K house m (if x0_isSafe N tk cp sh fc A H K house.toNatClampNeg (-(nI ((lo + hi + 1) / 2))) then (lo + hi + 1) / 2 else lo) (if x0_isSafe N tk cp sh fc A H K house.toNatClampNeg (-(nI ((lo + hi + 1) / 2))) then hi else (lo + hi + 1) / 2 - 1) else lo
theorem x0_room_s39_d (N : Nat → Int32) (tk : Nat → Int32) (cp : Nat → Int32) (sh : Nat → Int32) (fc : Int32) (A : Nat) (H : Nat) (K : Nat → Nat) (house : Int32) (m lo hi : Nat) (h : ¬ lo < hi) : x0_room_s39 N tk cp sh fc A H K house m lo hi = lo := by
  cases m with
  | zero => rfl
  | succ m => unfold x0_room_s39; rw [if_neg h]
theorem x0_room_s39_s (N : Nat → Int32) (tk : Nat → Int32) (cp : Nat → Int32) (sh : Nat → Int32) (fc : Int32) (A : Nat) (H : Nat) (K : Nat → Nat) (house : Int32) (m lo hi : Nat) (h : lo < hi) : x0_room_s39 N tk cp sh fc A H K house (m + 1) lo hi = x0_room_s39 N tk cp sh fc A H K house m (if x0_isSafe N tk cp sh fc A H K house.toNatClampNeg (-(nI ((lo + hi + 1) / 2))) then (lo + hi + 1) / 2 else lo) (if x0_isSafe N tk cp sh fc A H K house.toNatClampNeg (-(nI ((lo + hi + 1) / 2))) then hi else (lo + hi + 1) / 2 - 1) := by
  rw [x0_room_s39, if_pos h]
noncomputable def x0_room (N : Nat → Int32) (tk : Nat → Int32) (cp : Nat → Int32) (sh : Nat → Int32) (fc : Int32) (A : Nat) (H : Nat) (K : Nat → Nat) (house : Int32) : Int32 := (if zin house H then (if x0_isSafe N tk cp sh fc A H K house.toNatClampNeg 0 then nI (x0_room_s39 N tk cp sh fc A H K house 14 0 ((N (10 + (5 * house.toNatClampNeg))).toNatClampNeg)) else (-2) : Int32) else (-1) : Int32)
set_option maxHeartbeats 4000000 in
theorem met_X0_room {g : Zg} (hG : zG g) {G0 : zHG} {xq x dq tp : Nat} {bg : Value} {bl tpd : Int32} {q t : Nat} {B : Nat → Nat → Nat} {N tk cp sh : Nat → Int32} {fc gn : Int32} (hx : zFx G0 xq x t dq tp bg bl tpd) (ht : zTw g G0 q t B N tk cp sh fc gn) {A H : Nat} {K : Nat → Nat} (hN : zWf N A H K) (ne_x_t_00 : (xq, 0) ≠ (q, 0)) (ne_x_t_01 : (xq, 0) ≠ (q, 1)) (ne_x_t_02 : (xq, 0) ≠ (q, 2)) (house : Int32) (af0 : (zin house H) → (x0_isSafe N tk cp sh fc A H K house.toNatClampNeg 0) → zin (N (10 + (5 * house.toNatClampNeg))) 10000) : ZM g yX0_room cX0_room 5 (some FieldType.int) 11 75 240 [.ref x, .int house] G0 (fun r G' => r = some (.int (x0_room N tk cp sh fc A H K house)) ∧ (zFx G' xq x t dq tp bg bl tpd ∧ (∃ gnE : Int32, zTw g G' q t B N tk cp sh fc gnE) ∧ zFrK [(q, 0), (q, 1), (q, 2)] G0 G')) := by
  unfold x0_room
  have hN2 := hN.2.1
  have hN4 := hN.2.2.2.1
  refine ZM_mk hG (by decide) (Nat.le_of_ble_eq_true rfl) ?_
  intro X hX hname hQ
  obtain ⟨G, hGe⟩ : ∃ z, z = G0 := ⟨_, rfl⟩
  have hM : zFx G xq x t dq tp bg bl tpd ∧ zTw g G q t B N tk cp sh fc gn ∧ zFrK [(q, 0), (q, 1), (q, 2)] G0 G := by rw [hGe]; exact ⟨hx, ht, zFrK.rf⟩
  show ZW g X 0 0 G0 0 [(0, .ref x), (1, .int house)] []
  rw [← hGe]
  refine z_aload_n hX dX0_room_0 1 rfl (i := 0) rfl 0 rfl ?_
  refine z_getf hX fX0_10 hM.1.o dX0_room_1 4 rfl (x := .ref t) rfl ?_
  refine z_iload_n hX dX0_room_4 5 rfl (i := 1) rfl 1 rfl ?_
  obtain ⟨opr, os1, os2, of1, of2, ob1, ob2, hT9, h19, h29⟩ := id hM.2.1
  refine z_callVp hX cwX0_72 (w := .int (if zin house H then 1 else 0 : Int32)) (met_X1_isHouse hG hT9 hN house) hT9.o rfl rfl dX0_room_5 8 rfl rfl rfl (Nat.le_of_ble_eq_true rfl) (by decide) ⟨Nat.zero_le _, Nat.zero_le _⟩ ?_
  refine z_if_neP hX (zin house H) dX0_room_8 11 rfl (tgt := 13) (by decide) (fun c1 => ?_) (fun c1 => ?_)
  ·
    have e_house := zin_eq c1
    have l_house := zin_lt c1
    refine z_eqL (L' := [(0, .ref x), (1, .int (nI house.toNatClampNeg))]) (st' := []) (by rw [← e_house]) (by first | rfl | rw [← e_house]) ?_
    refine z_aload_n hX dX0_room_13 14 rfl (i := 0) rfl 0 rfl ?_
    refine z_iload_n hX dX0_room_14 15 rfl (i := 1) rfl 1 rfl ?_
    refine z_iconst hX dX0_room_15 16 rfl zki_0 ?_
    refine z_callV hX cwX0_306 (met_X0_isSafe hG hM.1 hM.2.1 hN ne_x_t_00 ne_x_t_01 ne_x_t_02 house.toNatClampNeg 0 (by omega)) hM.1.o rfl rfl dX0_room_16 19 rfl rfl rfl (Nat.le_of_ble_eq_true rfl) (by decide) ⟨by omega, by omega⟩ (fun r G hP => ?_)
    obtain ⟨rfl, hP⟩ := hP
    have hM : zFx G xq x t dq tp bg bl tpd ∧ zTw g G q t B N tk cp sh fc (x0_isSafe_gn N tk cp sh fc A H K house.toNatClampNeg 0) ∧ zFrK [(q, 0), (q, 1), (q, 2)] G0 G := ⟨hP.1, hP.2.1, hM.2.2.stepL hP.2.2 (zml1 (Or.inl List.mem_cons_self) (zml1 (Or.inl (List.mem_cons_of_mem _ List.mem_cons_self)) (zml1 (Or.inl (List.mem_cons_of_mem _ (List.mem_cons_of_mem _ List.mem_cons_self))) zml0)))⟩
    show ZW g X 5 16 G 19 [(0, .ref x), (1, .int (nI house.toNatClampNeg))] [.int (if x0_isSafe N tk cp sh fc A H K house.toNatClampNeg 0 then 1 else 0 : Int32)]
    refine z_if_neP hX (x0_isSafe N tk cp sh fc A H K house.toNatClampNeg 0) dX0_room_19 22 rfl (tgt := 25) (by decide) (fun c2 => ?_) (fun c2 => ?_)
    ·
      refine z_iconst hX dX0_room_25 26 rfl zki_0 ?_
      refine z_istore_n hX dX0_room_26 27 rfl (i := 2) rfl (Nat.le_of_ble_eq_true rfl) rfl (L' := [(0, .ref x), (1, .int (nI house.toNatClampNeg)), (2, .int 0)]) rfl ?_
      refine z_aload_n hX dX0_room_27 28 rfl (i := 0) rfl 0 rfl ?_
      refine z_getf hX fX0_10 hM.1.o dX0_room_28 31 rfl (x := .ref t) rfl ?_
      obtain ⟨opr, os1, os2, of1, of2, ob1, ob2, hT9, h19, h29⟩ := id hM.2.1
      refine z_getfN hX fX0_67 hT9.o dX0_room_31 34 rfl (x := .ref (B 2 0)) rfl ?_
      refine z_iload_n hX dX0_room_34 35 rfl (i := 1) rfl 1 rfl ?_
      obtain ⟨opr, os1, os2, of1, of2, ob1, ob2, hT9, h19, h29⟩ := id hM.2.1
      refine z_aaldF hX 2 rfl rfl hT9.o0 (j := house.toNatClampNeg) (by omega) (by decide) rfl dX0_room_35 36 rfl ?_
      refine z_iconst hX dX0_room_36 37 rfl zki_0 ?_
      obtain ⟨opr, os1, os2, of1, of2, ob1, ob2, hT9, h19, h29⟩ := id hM.2.1
      refine z_ialdF hX (hT9.fo house.toNatClampNeg (by omega)) (j := 0) (by omega) (by decide) dX0_room_37 38 rfl (w := N (10 + (5 * house.toNatClampNeg))) rfl ?_
      have hz3 : zin (N (10 + (5 * house.toNatClampNeg))) 10000 := (af0 c1 c2)
      have ehz3 := zin_eq hz3
      have lhz3 := zin_lt hz3
      refine z_eqL (L' := [(0, .ref x), (1, .int (nI house.toNatClampNeg)), (2, .int 0)]) (st' := [.int (nI ((N (10 + (5 * house.toNatClampNeg))).toNatClampNeg))]) rfl (by rw [← ehz3]) ?_
      refine z_istore_n hX dX0_room_38 39 rfl (i := 3) rfl (Nat.le_of_ble_eq_true rfl) rfl (L' := [(0, .ref x), (1, .int (nI house.toNatClampNeg)), (2, .int 0), (3, .int (nI ((N (10 + (5 * house.toNatClampNeg))).toNatClampNeg)))]) rfl ?_
      obtain ⟨Z9, hZ9⟩ : ∃ z, z = (x0_room_s39 N tk cp sh fc A H K house 14 0 ((N (10 + (5 * house.toNatClampNeg))).toNatClampNeg)) := ⟨_, rfl⟩
      have E4 : ∀ (gnE : Int32) (G : zHG), zFx G xq x t dq tp bg bl tpd ∧ zTw g G q t B N tk cp sh fc gnE ∧ zFrK [(q, 0), (q, 1), (q, 2)] G0 G → ZW g X 75 240 G 78 [(0, .ref x), (1, .int (nI house.toNatClampNeg)), (2, .int (nI (x0_room_s39 N tk cp sh fc A H K house 14 0 ((N (10 + (5 * house.toNatClampNeg))).toNatClampNeg))))] [] := by
        intro gnE G hM
        refine z_iload_n hX dX0_room_78 79 rfl (i := 2) rfl 2 rfl ?_
        exact z_iret hX hQ (by omega) (by omega) rfl dX0_room_79 ⟨(by first | (simp only [if_pos c1, if_pos c2] <;> rfl; done) | grind), hM.1, ⟨_, hM.2.1⟩, hM.2.2⟩
      have Lp5 : ∀ m lo hi : Nat, m ≤ 14 → hi < lo + 2 ^ m → lo ≤ hi → hi ≤ 9999 → x0_room_s39 N tk cp sh fc A H K house m lo hi = (x0_room_s39 N tk cp sh fc A H K house 14 0 ((N (10 + (5 * house.toNatClampNeg))).toNatClampNeg)) → ∀ (gnA : Int32) (G : zHG), zFx G xq x t dq tp bg bl tpd ∧ zTw g G q t B N tk cp sh fc gnA ∧ zFrK [(q, 0), (q, 1), (q, 2)] G0 G → ZW g X (5 + 5 * (14 - m)) (16 + 16 * (14 - m)) G 39 [(0, .ref x), (1, .int (nI house.toNatClampNeg)), (2, .int (nI lo)), (3, .int (nI hi))] [] := by
        intro m
        induction m with
        | zero =>
          intro lo hi hm hp hle htop hz gnA G hM
          have hp : hi < lo + 1 := hp
          refine z_iload_n hX dX0_room_39 40 rfl (i := 2) rfl 2 rfl ?_
          refine z_iload_n hX dX0_room_40 41 rfl (i := 3) rfl 3 rfl ?_
          refine z_icmp_geN hX lo hi (by omega) (by omega) dX0_room_41 44 rfl (tgt := 78) (by decide) (fun c6 => ?_) (fun c6 => ?_)
          ·
            have hz2 := (x0_room_s39_d N tk cp sh fc A H K house 0 lo hi (by omega)).symm.trans hz
            rw [hz2]
            refine z_widen (u' := 75) (v' := 240) (by omega) (by omega) ?_
            refine z_sub [0, 1, 2] rfl ?_
            exact E4 gnA G hM
          · omega
        | succ m ih =>
          intro lo hi hm hp hle htop hz gnA G hM
          refine z_iload_n hX dX0_room_39 40 rfl (i := 2) rfl 2 rfl ?_
          refine z_iload_n hX dX0_room_40 41 rfl (i := 3) rfl 3 rfl ?_
          refine z_icmp_geN hX lo hi (by omega) (by omega) dX0_room_41 44 rfl (tgt := 78) (by decide) (fun c7 => ?_) (fun c7 => ?_)
          ·
            have hz2 := (x0_room_s39_d N tk cp sh fc A H K house (m + 1) lo hi (by omega)).symm.trans hz
            rw [hz2]
            refine z_widen (u' := 75) (v' := 240) (by omega) (by omega) ?_
            refine z_sub [0, 1, 2] rfl ?_
            exact E4 gnA G hM
          ·
            have hp2 : 2 ^ (m + 1) = 2 * 2 ^ m := by rw [Nat.pow_succ]; omega
            rw [hp2] at hp
            have hz3 := (x0_room_s39_s N tk cp sh fc A H K house m lo hi (by omega)).symm.trans hz
            refine z_iload_n hX dX0_room_44 45 rfl (i := 2) rfl 2 rfl ?_
            refine z_iload_n hX dX0_room_45 46 rfl (i := 3) rfl 3 rfl ?_
            refine z_iadd hX dX0_room_46 47 rfl (w := nI (lo + hi)) (nI_add lo hi) ?_
            refine z_iconst hX dX0_room_47 48 rfl zki_1 ?_
            refine z_iadd hX dX0_room_48 49 rfl (w := nI (lo + hi + 1)) (nI_add (lo + hi) 1) ?_
            refine z_iconst hX dX0_room_49 50 rfl zki_1 ?_
            refine z_iushr hX dX0_room_50 51 rfl (w := nI ((lo + hi + 1) / 2)) (zushr1 (by omega)) ?_
            refine z_istore hX dX0_room_51 53 rfl (Nat.le_of_ble_eq_true rfl) rfl (L' := [(0, .ref x), (1, .int (nI house.toNatClampNeg)), (2, .int (nI lo)), (3, .int (nI hi)), (4, .int (nI ((lo + hi + 1) / 2)))]) rfl ?_
            refine z_aload_n hX dX0_room_53 54 rfl (i := 0) rfl 0 rfl ?_
            refine z_iload_n hX dX0_room_54 55 rfl (i := 1) rfl 1 rfl ?_
            refine z_iload hX dX0_room_55 57 rfl 4 rfl ?_
            refine z_ineg hX dX0_room_57 58 rfl ?_
            refine z_callV hX cwX0_306 (met_X0_isSafe hG hM.1 hM.2.1 hN ne_x_t_00 ne_x_t_01 ne_x_t_02 house.toNatClampNeg (-(nI ((lo + hi + 1) / 2))) (by omega)) hM.1.o rfl rfl dX0_room_58 61 rfl rfl rfl (Nat.le_of_ble_eq_true rfl) (by decide) ⟨by omega, by omega⟩ (fun r G hP => ?_)
            obtain ⟨rfl, hP⟩ := hP
            have hM : zFx G xq x t dq tp bg bl tpd ∧ zTw g G q t B N tk cp sh fc (x0_isSafe_gn N tk cp sh fc A H K house.toNatClampNeg (-(nI ((lo + hi + 1) / 2)))) ∧ zFrK [(q, 0), (q, 1), (q, 2)] G0 G := ⟨hP.1, hP.2.1, hM.2.2.stepL hP.2.2 (zml1 (Or.inl List.mem_cons_self) (zml1 (Or.inl (List.mem_cons_of_mem _ List.mem_cons_self)) (zml1 (Or.inl (List.mem_cons_of_mem _ (List.mem_cons_of_mem _ List.mem_cons_self))) zml0)))⟩
            show ZW g X (5 + 5 * (14 - (m + 1)) + 5) (16 + 16 * (14 - (m + 1)) + 16) G 61 [(0, .ref x), (1, .int (nI house.toNatClampNeg)), (2, .int (nI lo)), (3, .int (nI hi)), (4, .int (nI ((lo + hi + 1) / 2)))] [.int (if x0_isSafe N tk cp sh fc A H K house.toNatClampNeg (-(nI ((lo + hi + 1) / 2))) then 1 else 0 : Int32)]
            refine z_if_eqP hX (x0_isSafe N tk cp sh fc A H K house.toNatClampNeg (-(nI ((lo + hi + 1) / 2)))) dX0_room_61 64 rfl (tgt := 70) (by decide) (fun c8 => ?_) (fun c8 => ?_)
            ·
              refine z_iload hX dX0_room_70 72 rfl 4 rfl ?_
              refine z_iconst hX dX0_room_72 73 rfl zki_1 ?_
              refine z_isub hX dX0_room_73 74 rfl (w := nI ((lo + hi + 1) / 2 - 1)) (pk_sub (a := (lo + hi + 1) / 2) (b := 1) (by omega)) ?_
              refine z_istore_n hX dX0_room_74 75 rfl (i := 3) rfl (Nat.le_of_ble_eq_true rfl) rfl (L' := [(0, .ref x), (1, .int (nI house.toNatClampNeg)), (2, .int (nI lo)), (3, .int (nI ((lo + hi + 1) / 2 - 1))), (4, .int (nI ((lo + hi + 1) / 2)))]) rfl ?_
              refine z_goto hX dX0_room_75 (tgt := 39) (by decide) ?_
              simp only [if_neg c8] at hz3
              refine z_sub [0, 1, 2, 3] rfl ?_
              refine z_widen (u' := 5 + 5 * (14 - m)) (v' := 16 + 16 * (14 - m)) (by omega) (by omega) ?_
              exact ih lo ((lo + hi + 1) / 2 - 1) (by omega) (by omega) (by omega) (by omega) hz3 _ G hM
            ·
              refine z_iload hX dX0_room_64 66 rfl 4 rfl ?_
              refine z_istore_n hX dX0_room_66 67 rfl (i := 2) rfl (Nat.le_of_ble_eq_true rfl) rfl (L' := [(0, .ref x), (1, .int (nI house.toNatClampNeg)), (2, .int (nI ((lo + hi + 1) / 2))), (3, .int (nI hi)), (4, .int (nI ((lo + hi + 1) / 2)))]) rfl ?_
              refine z_goto hX dX0_room_67 (tgt := 75) (by decide) ?_
              refine z_goto hX dX0_room_75 (tgt := 39) (by decide) ?_
              simp only [if_pos c8] at hz3
              refine z_sub [0, 1, 2, 3] rfl ?_
              refine z_widen (u' := 5 + 5 * (14 - m)) (v' := 16 + 16 * (14 - m)) (by omega) (by omega) ?_
              exact ih ((lo + hi + 1) / 2) hi (by omega) (by omega) (by omega) (by omega) hz3 _ G hM
      refine z_widen (u' := 5 + 5 * (14 - 14)) (v' := 16 + 16 * (14 - 14)) (by omega) (by omega) ?_
      exact Lp5 14 0 ((N (10 + (5 * house.toNatClampNeg))).toNatClampNeg) (by omega) (by omega) (by omega) (by omega) rfl _ G hM
    ·
      refine z_bipush hX dX0_room_22 24 rfl zkb_m2 ?_
      exact z_iret hX hQ (by omega) (by omega) rfl dX0_room_24 ⟨(by first | (simp only [if_pos c1, if_neg c2] <;> rfl; done) | grind), hM.1, ⟨_, hM.2.1⟩, hM.2.2⟩
  ·
    refine z_iconst hX dX0_room_11 12 rfl zki_m1 ?_
    exact z_iret hX hQ (by omega) (by omega) rfl dX0_room_12 ⟨(by first | (simp only [if_neg c1] <;> rfl; done) | grind), hM.1, ⟨_, hM.2.1⟩, hM.2.2⟩
