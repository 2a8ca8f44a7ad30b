set_option maxRecDepth 100000
/-- FireSale's own object -/
def zFx (G : zHG) (xq x t dq tp : Nat) (bg : Value) (bl tpd : Int32) : Prop := G x = some ((xq, 0), zO 0 [.ref t, .ref dq, bg, .int bl, .ref tp, .int tpd])
theorem zFx.o {G : zHG} {xq x t dq tp : Nat} {bg : Value} {bl tpd : Int32} (h : zFx G xq x t dq tp bg bl tpd) : G x = some ((xq, 0), zO 0 [.ref t, .ref dq, bg, .int bl, .ref tp, .int tpd]) := h
theorem zFx.kp {G G' : zHG} {xq x t dq tp : Nat} {bg : Value} {bl tpd : Int32} (h : zFx G xq x t dq tp bg bl tpd) (hk : zKp (xq, 0) G G') : zFx G' xq x t dq tp bg bl tpd := hk _ _ _ h (Or.inr (zky0 _ _ (by decide)))
set_option maxHeartbeats 4000000 in
theorem met_X0_isState {g : Zg} (hG : zG g) {G : zHG} (which : Int32)  : ZM g yX0_isState cX0_isState 1 (some FieldType.boolean) 1 0 0 [.int which] G (zRet (some (.int (if zin which 4 then 1 else 0 : Int32))) G) := by
  refine ZM_mk hG (by decide) (Nat.le_of_ble_eq_true rfl) ?_
  intro X hX hname hQ
  show ZW g X 0 0 G 0 [(0, .int which)] []
  refine z_iload_n hX dX0_isState_0 1 rfl (i := 0) rfl 0 rfl ?_
  refine z_i2l hX dX0_isState_1 2 rfl (w := (which).toInt64) (by first | rfl | decide) ?_
  refine z_lconst hX dX0_isState_2 3 rfl (w := 0) rfl ?_
  refine z_ldc2 hX q898 dX0_isState_3 6 rfl ?_
  refine z_eqL (L' := [(0, .int which)]) (st' := [.long ((3 : Int32).toInt64), .long ((0 : Int32).toInt64), .long ((which).toInt64)]) rfl (by rfl) ?_
  refine z_callSp hX cwX0_45 (w := .int (if zin which 4 then 1 else 0 : Int32)) (met_X0_inz hG which 3 4 (by decide)) dX0_isState_6 9 rfl rfl rfl (Nat.le_of_ble_eq_true rfl) (by decide) ⟨Nat.zero_le _, Nat.zero_le _⟩ ?_
  exact z_zret hX hQ (Nat.zero_le _) (Nat.zero_le _) rfl (z_nb _) dX0_isState_9 ⟨rfl, rfl⟩
def x0_loansOf_l5 (N : Nat → Int32) (h : Nat) (fr : Prop) [Decidable fr] (ini : Int32) (k : Nat) : Int32 := zfold k (fun j1 cj1 => cj1 + (if fr then N (64 + (6 * h) + j1) else N (64 + (6 * j1) + h) : Int32)) ini
theorem x0_loansOf_l5_0 (N : Nat → Int32) (h : Nat) (fr : Prop) [Decidable fr] (ini : Int32) : x0_loansOf_l5 N h fr ini 0 = ini := (zfold_0 _ _).trans (Eq.refl _)
def x0_loansOf (N : Nat → Int32) (H : Nat) (h : Nat) (fr : Prop) [Decidable fr] : Int32 := x0_loansOf_l5 N h fr 0 H
set_option maxHeartbeats 4000000 in
theorem met_X0_loansOf {g : Zg} (hG : zG g) {G : zHG} {xq x dq tp : Nat} {bg : Value} {bl tpd : Int32} {q t : Nat} {B : Nat → Nat → Nat} {N tk cp sh : Nat → Int32} {fc gn : Int32} (hx : zFx G xq x t dq tp bg bl tpd) (ht : zTw g G q t B N tk cp sh fc gn) {A H : Nat} {K : Nat → Nat} (hN : zWf N A H K) (h : Nat) (fr : Prop) [Decidable fr] (h_h : h < 6)  : ZM g yX0_loansOf cX0_loansOf 5 (some FieldType.int) 1 0 0 [.ref x, .int (nI h), .int (if fr then 1 else 0 : Int32)] G (zRet (some (.int (x0_loansOf N H h fr))) G) := by
  unfold x0_loansOf
  have hN2 := hN.2.1
  have hN4 := hN.2.2.2.1
  refine ZM_mk hG (by decide) (Nat.le_of_ble_eq_true rfl) ?_
  intro X hX hname hQ
  show ZW g X 0 0 G 0 [(0, .ref x), (1, .int (nI h)), (2, .int (if fr then 1 else 0 : Int32))] []
  refine z_iconst hX dX0_loansOf_0 1 rfl zki_0 ?_
  refine z_istore_n hX dX0_loansOf_1 2 rfl (i := 3) rfl (Nat.le_of_ble_eq_true rfl) rfl (L' := [(0, .ref x), (1, .int (nI h)), (2, .int (if fr then 1 else 0 : Int32)), (3, .int 0)]) rfl ?_
  refine z_iconst hX dX0_loansOf_2 3 rfl zki_0 ?_
  refine z_istore hX dX0_loansOf_3 5 rfl (Nat.le_of_ble_eq_true rfl) rfl (L' := [(0, .ref x), (1, .int (nI h)), (2, .int (if fr then 1 else 0 : Int32)), (3, .int 0), (4, .int 0)]) rfl ?_
  have E2 : ZW g X 0 0 G 57 [(0, .ref x), (1, .int (nI h)), (2, .int (if fr then 1 else 0 : Int32)), (3, .int (x0_loansOf_l5 N h fr 0 H)), (4, .int (nI H))] [] := by
    refine z_iload_n hX dX0_loansOf_57 58 rfl (i := 3) rfl 3 rfl ?_
    exact z_iret hX hQ (Nat.zero_le _) (Nat.zero_le _) rfl dX0_loansOf_58 ⟨rfl, rfl⟩
  have Lp3 : ∀ k j1 : Nat, j1 + k = H → ZW g X 0 0 G 5 [(0, .ref x), (1, .int (nI h)), (2, .int (if fr then 1 else 0 : Int32)), (3, .int (x0_loansOf_l5 N h fr 0 j1)), (4, .int (nI j1))] [] := by
    intro k
    induction k with
    | zero =>
      intro j1 hj1
      rw [show j1 = H from by omega]
      refine z_iload hX dX0_loansOf_5 7 rfl 4 rfl ?_
      refine z_aload_n hX dX0_loansOf_7 8 rfl (i := 0) rfl 0 rfl ?_
      refine z_getf hX fX0_10 hx.o dX0_loansOf_8 11 rfl (x := .ref t) rfl ?_
      obtain ⟨opr, os1, os2, of1, of2, ob1, ob2, hT9, h19, h29⟩ := id ht
      refine z_getfN hX fX0_64 hT9.o dX0_loansOf_11 14 rfl (x := .int (nI H)) (congrArg (fun z => some (Value.int z)) hN.2.2.1) ?_
      refine z_icmp_geN hX H H (by omega) (by omega) dX0_loansOf_14 17 rfl (tgt := 57) (by decide) (fun c4 => ?_) (fun c4 => ?_)
      · exact E2
      · exact absurd c4 (by omega)
    | succ k ih =>
      intro j1 hj1
      refine z_iload hX dX0_loansOf_5 7 rfl 4 rfl ?_
      refine z_aload_n hX dX0_loansOf_7 8 rfl (i := 0) rfl 0 rfl ?_
      refine z_getf hX fX0_10 hx.o dX0_loansOf_8 11 rfl (x := .ref t) rfl ?_
      obtain ⟨opr, os1, os2, of1, of2, ob1, ob2, hT9, h19, h29⟩ := id ht
      refine z_getfN hX fX0_64 hT9.o dX0_loansOf_11 14 rfl (x := .int (nI H)) (congrArg (fun z => some (Value.int z)) hN.2.2.1) ?_
      refine z_icmp_geN hX j1 H (by omega) (by omega) dX0_loansOf_14 17 rfl (tgt := 57) (by decide) (fun c5 => ?_) (fun c5 => ?_)
      · exact absurd c5 (by omega)
      ·
        refine z_iload_n hX dX0_loansOf_17 18 rfl (i := 3) rfl 3 rfl ?_
        refine z_iload_n hX dX0_loansOf_18 19 rfl (i := 2) rfl 2 rfl ?_
        have J7 : ZW g X 0 0 G 49 [(0, .ref x), (1, .int (nI h)), (2, .int (if fr then 1 else 0 : Int32)), (3, .int (x0_loansOf_l5 N h fr 0 j1)), (4, .int (nI j1))] [.int (if fr then N (64 + (6 * h) + j1) else N (64 + (6 * j1) + h) : Int32), .int (x0_loansOf_l5 N h fr 0 j1)] := by
          refine z_iadd hX dX0_loansOf_49 50 rfl (w := (x0_loansOf_l5 N h fr 0 j1) + (if fr then N (64 + (6 * h) + j1) else N (64 + (6 * j1) + h) : Int32)) rfl ?_
          refine z_istore_n hX dX0_loansOf_50 51 rfl (i := 3) rfl (Nat.le_of_ble_eq_true rfl) rfl (L' := [(0, .ref x), (1, .int (nI h)), (2, .int (if fr then 1 else 0 : Int32)), (3, .int ((x0_loansOf_l5 N h fr 0 j1) + (if fr then N (64 + (6 * h) + j1) else N (64 + (6 * j1) + h) : Int32))), (4, .int (nI j1))]) rfl ?_
          refine z_iinc hX dX0_loansOf_51 54 rfl 4 rfl (w := nI (j1 + 1)) (nI_1 j1) (Nat.le_of_ble_eq_true rfl) rfl (L' := [(0, .ref x), (1, .int (nI h)), (2, .int (if fr then 1 else 0 : Int32)), (3, .int ((x0_loansOf_l5 N h fr 0 j1) + (if fr then N (64 + (6 * h) + j1) else N (64 + (6 * j1) + h) : Int32))), (4, .int (nI (j1 + 1)))]) rfl ?_
          refine z_goto hX dX0_loansOf_54 (tgt := 5) (by decide) ?_
          exact ih (j1 + 1) (by omega)
        refine z_if_eqP hX (fr) dX0_loansOf_19 22 rfl (tgt := 37) (by decide) (fun c6 => ?_) (fun c6 => ?_)
        ·
          refine z_aload_n hX dX0_loansOf_37 38 rfl (i := 0) rfl 0 rfl ?_
          refine z_getf hX fX0_10 hx.o dX0_loansOf_38 41 rfl (x := .ref t) rfl ?_
          obtain ⟨opr, os1, os2, of1, of2, ob1, ob2, hT9, h19, h29⟩ := id ht
          refine z_getfN hX fX0_92 hT9.o dX0_loansOf_41 44 rfl (x := .ref (B 4 0)) rfl ?_
          refine z_iload hX dX0_loansOf_44 46 rfl 4 rfl ?_
          obtain ⟨opr, os1, os2, of1, of2, ob1, ob2, hT9, h19, h29⟩ := id ht
          refine z_aaldF hX 2 rfl rfl hT9.l0 (j := j1) (by omega) (by decide) rfl dX0_loansOf_46 47 rfl ?_
          refine z_iload_n hX dX0_loansOf_47 48 rfl (i := 1) rfl 1 rfl ?_
          obtain ⟨opr, os1, os2, of1, of2, ob1, ob2, hT9, h19, h29⟩ := id ht
          refine z_ialdF hX (hT9.fl j1 (by omega)) (j := h) (by omega) (by decide) dX0_loansOf_48 49 rfl (w := N (64 + (6 * j1) + h)) rfl ?_
          exact z_eqL rfl (by first | (simp only [if_neg c6] <;> rfl; done) | grind) J7
        ·
          refine z_aload_n hX dX0_loansOf_22 23 rfl (i := 0) rfl 0 rfl ?_
          refine z_getf hX fX0_10 hx.o dX0_loansOf_23 26 rfl (x := .ref t) rfl ?_
          obtain ⟨opr, os1, os2, of1, of2, ob1, ob2, hT9, h19, h29⟩ := id ht
          refine z_getfN hX fX0_92 hT9.o dX0_loansOf_26 29 rfl (x := .ref (B 4 0)) rfl ?_
          refine z_iload_n hX dX0_loansOf_29 30 rfl (i := 1) rfl 1 rfl ?_
          obtain ⟨opr, os1, os2, of1, of2, ob1, ob2, hT9, h19, h29⟩ := id ht
          refine z_aaldF hX 2 rfl rfl hT9.l0 (j := h) (by omega) (by decide) rfl dX0_loansOf_30 31 rfl ?_
          refine z_iload hX dX0_loansOf_31 33 rfl 4 rfl ?_
          obtain ⟨opr, os1, os2, of1, of2, ob1, ob2, hT9, h19, h29⟩ := id ht
          refine z_ialdF hX (hT9.fl h (by omega)) (j := j1) (by omega) (by decide) dX0_loansOf_33 34 rfl (w := N (64 + (6 * h) + j1)) rfl ?_
          refine z_goto hX dX0_loansOf_34 (tgt := 49) (by decide) ?_
          exact z_eqL rfl (by first | (simp only [if_pos c6] <;> rfl; done) | grind) J7
  exact Lp3 H 0 (by omega)
def x0_of (N : Nat → Int32) (H : Nat) (house : Int32) (what : Int32) : Int32 := (if zin house H then (if what = 0 then N (10 + (5 * house.toNatClampNeg)) else (if what = 1 then N (10 + (5 * house.toNatClampNeg) + 1) else (if what = 2 then N (10 + (5 * house.toNatClampNeg) + 2) else (if what = 3 then N (10 + (5 * house.toNatClampNeg) + 3) else (if what = 4 then N (10 + (5 * house.toNatClampNeg) + 4) else (if what = 5 then x1_pieces N house.toNatClampNeg else (if what = 6 then x0_loansOf N H house.toNatClampNeg True else (if what = 7 then x0_loansOf N H house.toNatClampNeg False else (-1) : Int32) : Int32) : Int32) : Int32) : Int32) : Int32) : Int32) : Int32) else (-1) : Int32)
set_option maxHeartbeats 4000000 in
theorem met_X0_of {g : Zg} (hG : zG g) {G : zHG} {xq x dq tp : Nat} {bg : Value} {bl tpd : Int32} {q t : Nat} {B : Nat → Nat → Nat} {N tk cp sh : Nat → Int32} {fc gn : Int32} (hx : zFx G xq x t dq tp bg bl tpd) (ht : zTw g G q t B N tk cp sh fc gn) {A H : Nat} {K : Nat → Nat} (hN : zWf N A H K) (house : Int32) (what : Int32)  : ZM g yX0_of cX0_of 3 (some FieldType.int) 2 0 0 [.ref x, .int house, .int what] G (zRet (some (.int (x0_of N H house what))) G) := by
  unfold x0_of
  have hN2 := hN.2.1
  have hN4 := hN.2.2.2.1
  refine ZM_mk hG (by decide) (Nat.le_of_ble_eq_true rfl) ?_
  intro X hX hname hQ
  show ZW g X 0 0 G 0 [(0, .ref x), (1, .int house), (2, .int what)] []
  refine z_aload_n hX dX0_of_0 1 rfl (i := 0) rfl 0 rfl ?_
  refine z_getf hX fX0_10 hx.o dX0_of_1 4 rfl (x := .ref t) rfl ?_
  refine z_iload_n hX dX0_of_4 5 rfl (i := 1) rfl 1 rfl ?_
  obtain ⟨opr, os1, os2, of1, of2, ob1, ob2, hT9, h19, h29⟩ := id ht
  refine z_callVp hX cwX0_72 (w := .int (if zin house H then 1 else 0 : Int32)) (met_X1_isHouse hG hT9 hN house) hT9.o rfl rfl dX0_of_5 8 rfl rfl rfl (Nat.le_of_ble_eq_true rfl) (by decide) ⟨Nat.zero_le _, Nat.zero_le _⟩ ?_
  refine z_if_neP hX (zin house H) dX0_of_8 11 rfl (tgt := 13) (by decide) (fun c1 => ?_) (fun c1 => ?_)
  ·
    have e_house := zin_eq c1
    have l_house := zin_lt c1
    refine z_eqL (L' := [(0, .ref x), (1, .int (nI house.toNatClampNeg)), (2, .int what)]) (st' := []) (by rw [← e_house]) (by first | rfl | rw [← e_house]) ?_
    refine z_iload_n hX dX0_of_13 14 rfl (i := 2) rfl 2 rfl ?_
    by_cases s2 : what = 0
    ·
      refine z_eqL (L' := [(0, .ref x), (1, .int (nI house.toNatClampNeg)), (2, .int 0)]) (st' := [.int 0]) (by rw [s2]) (by rw [s2]) ?_
      refine z_tableIn hX dX0_of_14 (off := 46) (tgt := 60) (by decide) (by decide) (by decide) (by decide) ?_
      refine z_aload_n hX dX0_of_60 61 rfl (i := 0) rfl 0 rfl ?_
      refine z_getf hX fX0_10 hx.o dX0_of_61 64 rfl (x := .ref t) rfl ?_
      obtain ⟨opr, os1, os2, of1, of2, ob1, ob2, hT9, h19, h29⟩ := id ht
      refine z_getfN hX fX0_67 hT9.o dX0_of_64 67 rfl (x := .ref (B 2 0)) rfl ?_
      refine z_iload_n hX dX0_of_67 68 rfl (i := 1) rfl 1 rfl ?_
      obtain ⟨opr, os1, os2, of1, of2, ob1, ob2, hT9, h19, h29⟩ := id ht
      refine z_aaldF hX 2 rfl rfl hT9.o0 (j := house.toNatClampNeg) (by omega) (by decide) rfl dX0_of_68 69 rfl ?_
      refine z_iload_n hX dX0_of_69 70 rfl (i := 2) rfl 2 rfl ?_
      obtain ⟨opr, os1, os2, of1, of2, ob1, ob2, hT9, h19, h29⟩ := id ht
      refine z_ialdF hX (hT9.fo house.toNatClampNeg (by omega)) (j := 0) (by omega) (by decide) dX0_of_70 71 rfl (w := N (10 + (5 * house.toNatClampNeg))) rfl ?_
      exact z_iret hX hQ (Nat.zero_le _) (Nat.zero_le _) rfl dX0_of_71 ⟨(by first | (simp only [if_pos c1, if_pos s2] <;> rfl; done) | grind), rfl⟩
    by_cases s3 : what = 1
    ·
      refine z_eqL (L' := [(0, .ref x), (1, .int (nI house.toNatClampNeg)), (2, .int 1)]) (st' := [.int 1]) (by rw [s3]) (by rw [s3]) ?_
      refine z_tableIn hX dX0_of_14 (off := 46) (tgt := 60) (by decide) (by decide) (by decide) (by decide) ?_
      refine z_aload_n hX dX0_of_60 61 rfl (i := 0) rfl 0 rfl ?_
      refine z_getf hX fX0_10 hx.o dX0_of_61 64 rfl (x := .ref t) rfl ?_
      obtain ⟨opr, os1, os2, of1, of2, ob1, ob2, hT9, h19, h29⟩ := id ht
      refine z_getfN hX fX0_67 hT9.o dX0_of_64 67 rfl (x := .ref (B 2 0)) rfl ?_
      refine z_iload_n hX dX0_of_67 68 rfl (i := 1) rfl 1 rfl ?_
      obtain ⟨opr, os1, os2, of1, of2, ob1, ob2, hT9, h19, h29⟩ := id ht
      refine z_aaldF hX 2 rfl rfl hT9.o0 (j := house.toNatClampNeg) (by omega) (by decide) rfl dX0_of_68 69 rfl ?_
      refine z_iload_n hX dX0_of_69 70 rfl (i := 2) rfl 2 rfl ?_
      obtain ⟨opr, os1, os2, of1, of2, ob1, ob2, hT9, h19, h29⟩ := id ht
      refine z_ialdF hX (hT9.fo house.toNatClampNeg (by omega)) (j := 1) (by omega) (by decide) dX0_of_70 71 rfl (w := N (10 + (5 * house.toNatClampNeg) + 1)) rfl ?_
      exact z_iret hX hQ (Nat.zero_le _) (Nat.zero_le _) rfl dX0_of_71 ⟨(by first | (simp only [if_pos c1, if_neg s2, if_pos s3] <;> rfl; done) | grind), rfl⟩
    by_cases s4 : what = 2
    ·
      refine z_eqL (L' := [(0, .ref x), (1, .int (nI house.toNatClampNeg)), (2, .int 2)]) (st' := [.int 2]) (by rw [s4]) (by rw [s4]) ?_
      refine z_tableIn hX dX0_of_14 (off := 46) (tgt := 60) (by decide) (by decide) (by decide) (by decide) ?_
      refine z_aload_n hX dX0_of_60 61 rfl (i := 0) rfl 0 rfl ?_
      refine z_getf hX fX0_10 hx.o dX0_of_61 64 rfl (x := .ref t) rfl ?_
      obtain ⟨opr, os1, os2, of1, of2, ob1, ob2, hT9, h19, h29⟩ := id ht
      refine z_getfN hX fX0_67 hT9.o dX0_of_64 67 rfl (x := .ref (B 2 0)) rfl ?_
      refine z_iload_n hX dX0_of_67 68 rfl (i := 1) rfl 1 rfl ?_
      obtain ⟨opr, os1, os2, of1, of2, ob1, ob2, hT9, h19, h29⟩ := id ht
      refine z_aaldF hX 2 rfl rfl hT9.o0 (j := house.toNatClampNeg) (by omega) (by decide) rfl dX0_of_68 69 rfl ?_
      refine z_iload_n hX dX0_of_69 70 rfl (i := 2) rfl 2 rfl ?_
      obtain ⟨opr, os1, os2, of1, of2, ob1, ob2, hT9, h19, h29⟩ := id ht
      refine z_ialdF hX (hT9.fo house.toNatClampNeg (by omega)) (j := 2) (by omega) (by decide) dX0_of_70 71 rfl (w := N (10 + (5 * house.toNatClampNeg) + 2)) rfl ?_
      exact z_iret hX hQ (Nat.zero_le _) (Nat.zero_le _) rfl dX0_of_71 ⟨(by first | (simp only [if_pos c1, if_neg s2, if_neg s3, if_pos s4] <;> rfl; done) | grind), rfl⟩
    by_cases s5 : what = 3
    ·
      refine z_eqL (L' := [(0, .ref x), (1, .int (nI house.toNatClampNeg)), (2, .int 3)]) (st' := [.int 3]) (by rw [s5]) (by rw [s5]) ?_
      refine z_tableIn hX dX0_of_14 (off := 46) (tgt := 60) (by decide) (by decide) (by decide) (by decide) ?_
      refine z_aload_n hX dX0_of_60 61 rfl (i := 0) rfl 0 rfl ?_
      refine z_getf hX fX0_10 hx.o dX0_of_61 64 rfl (x := .ref t) rfl ?_
      obtain ⟨opr, os1, os2, of1, of2, ob1, ob2, hT9, h19, h29⟩ := id ht
      refine z_getfN hX fX0_67 hT9.o dX0_of_64 67 rfl (x := .ref (B 2 0)) rfl ?_
      refine z_iload_n hX dX0_of_67 68 rfl (i := 1) rfl 1 rfl ?_
      obtain ⟨opr, os1, os2, of1, of2, ob1, ob2, hT9, h19, h29⟩ := id ht
      refine z_aaldF hX 2 rfl rfl hT9.o0 (j := house.toNatClampNeg) (by omega) (by decide) rfl dX0_of_68 69 rfl ?_
      refine z_iload_n hX dX0_of_69 70 rfl (i := 2) rfl 2 rfl ?_
      obtain ⟨opr, os1, os2, of1, of2, ob1, ob2, hT9, h19, h29⟩ := id ht
      refine z_ialdF hX (hT9.fo house.toNatClampNeg (by omega)) (j := 3) (by omega) (by decide) dX0_of_70 71 rfl (w := N (10 + (5 * house.toNatClampNeg) + 3)) rfl ?_
      exact z_iret hX hQ (Nat.zero_le _) (Nat.zero_le _) rfl dX0_of_71 ⟨(by first | (simp only [if_pos c1, if_neg s2, if_neg s3, if_neg s4, if_pos s5] <;> rfl; done) | grind), rfl⟩
    by_cases s6 : what = 4
    ·
      refine z_eqL (L' := [(0, .ref x), (1, .int (nI house.toNatClampNeg)), (2, .int 4)]) (st' := [.int 4]) (by rw [s6]) (by rw [s6]) ?_
      refine z_tableIn hX dX0_of_14 (off := 46) (tgt := 60) (by decide) (by decide) (by decide) (by decide) ?_
      refine z_aload_n hX dX0_of_60 61 rfl (i := 0) rfl 0 rfl ?_
      refine z_getf hX fX0_10 hx.o dX0_of_61 64 rfl (x := .ref t) rfl ?_
      obtain ⟨opr, os1, os2, of1, of2, ob1, ob2, hT9, h19, h29⟩ := id ht
      refine z_getfN hX fX0_67 hT9.o dX0_of_64 67 rfl (x := .ref (B 2 0)) rfl ?_
      refine z_iload_n hX dX0_of_67 68 rfl (i := 1) rfl 1 rfl ?_
      obtain ⟨opr, os1, os2, of1, of2, ob1, ob2, hT9, h19, h29⟩ := id ht
      refine z_aaldF hX 2 rfl rfl hT9.o0 (j := house.toNatClampNeg) (by omega) (by decide) rfl dX0_of_68 69 rfl ?_
      refine z_iload_n hX dX0_of_69 70 rfl (i := 2) rfl 2 rfl ?_
      obtain ⟨opr, os1, os2, of1, of2, ob1, ob2, hT9, h19, h29⟩ := id ht
      refine z_ialdF hX (hT9.fo house.toNatClampNeg (by omega)) (j := 4) (by omega) (by decide) dX0_of_70 71 rfl (w := N (10 + (5 * house.toNatClampNeg) + 4)) rfl ?_
      exact z_iret hX hQ (Nat.zero_le _) (Nat.zero_le _) rfl dX0_of_71 ⟨(by first | (simp only [if_pos c1, if_neg s2, if_neg s3, if_neg s4, if_neg s5, if_pos s6] <;> rfl; done) | grind), rfl⟩
    by_cases s7 : what = 5
    ·
      refine z_eqL (L' := [(0, .ref x), (1, .int (nI house.toNatClampNeg)), (2, .int 5)]) (st' := [.int 5]) (by rw [s7]) (by rw [s7]) ?_
      refine z_tableIn hX dX0_of_14 (off := 58) (tgt := 72) (by decide) (by decide) (by decide) (by decide) ?_
      refine z_aload_n hX dX0_of_72 73 rfl (i := 0) rfl 0 rfl ?_
      refine z_getf hX fX0_10 hx.o dX0_of_73 76 rfl (x := .ref t) rfl ?_
      refine z_iload_n hX dX0_of_76 77 rfl (i := 1) rfl 1 rfl ?_
      obtain ⟨opr, os1, os2, of1, of2, ob1, ob2, hT9, h19, h29⟩ := id ht
      refine z_callVNp hX cwX0_164 (w := .int (x1_pieces N house.toNatClampNeg)) (met_X1_pieces hG hT9 house.toNatClampNeg (by omega)) hT9.o rfl rfl dX0_of_77 80 rfl rfl rfl (Nat.le_of_ble_eq_true rfl) (by decide) ⟨Nat.zero_le _, Nat.zero_le _⟩ ?_
      exact z_iret hX hQ (Nat.zero_le _) (Nat.zero_le _) rfl dX0_of_80 ⟨(by first | (simp only [if_pos c1, if_neg s2, if_neg s3, if_neg s4, if_neg s5, if_neg s6, if_pos s7] <;> rfl; done) | grind), rfl⟩
    by_cases s8 : what = 6
    ·
      refine z_eqL (L' := [(0, .ref x), (1, .int (nI house.toNatClampNeg)), (2, .int 6)]) (st' := [.int 6]) (by rw [s8]) (by rw [s8]) ?_
      refine z_tableIn hX dX0_of_14 (off := 67) (tgt := 81) (by decide) (by decide) (by decide) (by decide) ?_
      refine z_aload_n hX dX0_of_81 82 rfl (i := 0) rfl 0 rfl ?_
      refine z_iload_n hX dX0_of_82 83 rfl (i := 1) rfl 1 rfl ?_
      refine z_iconst hX dX0_of_83 84 rfl zki_1 ?_
      refine z_callVp hX cwX0_167 (w := .int (x0_loansOf N H house.toNatClampNeg True)) (met_X0_loansOf hG hx ht hN house.toNatClampNeg True (by omega)) hx.o rfl rfl dX0_of_84 87 rfl rfl rfl (Nat.le_of_ble_eq_true rfl) (by decide) ⟨Nat.zero_le _, Nat.zero_le _⟩ ?_
      exact z_iret hX hQ (Nat.zero_le _) (Nat.zero_le _) rfl dX0_of_87 ⟨(by first | (simp only [if_pos c1, if_neg s2, if_neg s3, if_neg s4, if_neg s5, if_neg s6, if_neg s7, if_pos s8] <;> rfl; done) | grind), rfl⟩
    by_cases s9 : what = 7
    ·
      refine z_eqL (L' := [(0, .ref x), (1, .int (nI house.toNatClampNeg)), (2, .int 7)]) (st' := [.int 7]) (by rw [s9]) (by rw [s9]) ?_
      refine z_tableIn hX dX0_of_14 (off := 74) (tgt := 88) (by decide) (by decide) (by decide) (by decide) ?_
      refine z_aload_n hX dX0_of_88 89 rfl (i := 0) rfl 0 rfl ?_
      refine z_iload_n hX dX0_of_89 90 rfl (i := 1) rfl 1 rfl ?_
      refine z_iconst hX dX0_of_90 91 rfl zki_0 ?_
      refine z_callVp hX cwX0_167 (w := .int (x0_loansOf N H house.toNatClampNeg False)) (met_X0_loansOf hG hx ht hN house.toNatClampNeg False (by omega)) hx.o rfl rfl dX0_of_91 94 rfl rfl rfl (Nat.le_of_ble_eq_true rfl) (by decide) ⟨Nat.zero_le _, Nat.zero_le _⟩ ?_
      exact z_iret hX hQ (Nat.zero_le _) (Nat.zero_le _) rfl dX0_of_94 ⟨(by first | (simp only [if_pos c1, if_neg s2, if_neg s3, if_neg s4, if_neg s5, if_neg s6, if_neg s7, if_neg s8, if_pos s9] <;> rfl; done) | grind), rfl⟩
    have ts2 : ¬ (what).toInt = 0 := fun e => s2 (Int32.toInt_inj.mp (e.trans (by decide)))
    have ts3 : ¬ (what).toInt = 1 := fun e => s3 (Int32.toInt_inj.mp (e.trans (by decide)))
    have ts4 : ¬ (what).toInt = 2 := fun e => s4 (Int32.toInt_inj.mp (e.trans (by decide)))
    have ts5 : ¬ (what).toInt = 3 := fun e => s5 (Int32.toInt_inj.mp (e.trans (by decide)))
    have ts6 : ¬ (what).toInt = 4 := fun e => s6 (Int32.toInt_inj.mp (e.trans (by decide)))
    have ts7 : ¬ (what).toInt = 5 := fun e => s7 (Int32.toInt_inj.mp (e.trans (by decide)))
    have ts8 : ¬ (what).toInt = 6 := fun e => s8 (Int32.toInt_inj.mp (e.trans (by decide)))
    have ts9 : ¬ (what).toInt = 7 := fun e => s9 (Int32.toInt_inj.mp (e.trans (by decide)))
    refine z_tableOut hX dX0_of_14 (by omega) (tgt := 95) (by decide) ?_
    refine z_iconst hX dX0_of_95 96 rfl zki_m1 ?_
    exact z_iret hX hQ (Nat.zero_le _) (Nat.zero_le _) rfl dX0_of_96 ⟨(by first | (simp only [if_pos c1, if_neg s2, if_neg s3, if_neg s4, if_neg s5, if_neg s6, if_neg s7, if_neg s8, if_neg s9] <;> rfl; done) | grind), rfl⟩
  ·
    refine z_iconst hX dX0_of_11 12 rfl zki_m1 ?_
    exact z_iret hX hQ (Nat.zero_le _) (Nat.zero_le _) rfl dX0_of_12 ⟨(by first | (simp only [if_neg c1] <;> rfl; done) | grind), rfl⟩
def x0_holding (N : Nat → Int32) (A : Nat) (H : Nat) (house : Int32) (asset : Int32) : Int32 := (if zin house H then (if zin asset A then N (40 + (4 * house.toNatClampNeg) + asset.toNatClampNeg) else (-1) : Int32) else (-1) : Int32)
set_option maxHeartbeats 4000000 in
theorem met_X0_holding {g : Zg} (hG : zG g) {G : zHG} {xq x dq tp : Nat} {bg : Value} {bl tpd : Int32} {q t : Nat} {B : Nat → Nat → Nat} {N tk cp sh : Nat → Int32} {fc gn : Int32} (hx : zFx G xq x t dq tp bg bl tpd) (ht : zTw g G q t B N tk cp sh fc gn) {A H : Nat} {K : Nat → Nat} (hN : zWf N A H K) (house : Int32) (asset : Int32)  : ZM g yX0_holding cX0_holding 3 (some FieldType.int) 2 0 0 [.ref x, .int house, .int asset] G (zRet (some (.int (x0_holding N A H house asset))) G) := by
  unfold x0_holding
  have hN2 := hN.2.1
  have hN4 := hN.2.2.2.1
  refine ZM_mk hG (by decide) (Nat.le_of_ble_eq_true rfl) ?_
  intro X hX hname hQ
  show ZW g X 0 0 G 0 [(0, .ref x), (1, .int house), (2, .int asset)] []
  refine z_aload_n hX dX0_holding_0 1 rfl (i := 0) rfl 0 rfl ?_
  refine z_getf hX fX0_10 hx.o dX0_holding_1 4 rfl (x := .ref t) rfl ?_
  refine z_iload_n hX dX0_holding_4 5 rfl (i := 1) rfl 1 rfl ?_
  obtain ⟨opr, os1, os2, of1, of2, ob1, ob2, hT9, h19, h29⟩ := id ht
  refine z_callVp hX cwX0_72 (w := .int (if zin house H then 1 else 0 : Int32)) (met_X1_isHouse hG hT9 hN house) hT9.o rfl rfl dX0_holding_5 8 rfl rfl rfl (Nat.le_of_ble_eq_true rfl) (by decide) ⟨Nat.zero_le _, Nat.zero_le _⟩ ?_
  have J2 : ZW g X 0 0 G 37 [(0, .ref x)] [.int (if zin house H then (if zin asset A then N (40 + (4 * house.toNatClampNeg) + asset.toNatClampNeg) else (-1) : Int32) else (-1) : Int32)] := by
    exact z_iret hX hQ (Nat.zero_le _) (Nat.zero_le _) rfl dX0_holding_37 ⟨rfl, rfl⟩
  refine z_if_eqP hX (zin house H) dX0_holding_8 11 rfl (tgt := 36) (by decide) (fun c1 => ?_) (fun c1 => ?_)
  ·
    refine z_iconst hX dX0_holding_36 37 rfl zki_m1 ?_
    refine z_sub [0] rfl ?_
    exact z_eqL rfl (by first | (simp only [if_neg c1] <;> rfl; done) | grind) J2
  ·
    have e_house := zin_eq c1
    have l_house := zin_lt c1
    refine z_eqL (L' := [(0, .ref x), (1, .int (nI house.toNatClampNeg)), (2, .int asset)]) (st' := []) (by rw [← e_house]) (by first | rfl | rw [← e_house]) ?_
    refine z_aload_n hX dX0_holding_11 12 rfl (i := 0) rfl 0 rfl ?_
    refine z_getf hX fX0_10 hx.o dX0_holding_12 15 rfl (x := .ref t) rfl ?_
    refine z_iload_n hX dX0_holding_15 16 rfl (i := 2) rfl 2 rfl ?_
    obtain ⟨opr, os1, os2, of1, of2, ob1, ob2, hT9, h19, h29⟩ := id ht
    refine z_callVp hX cwX0_82 (w := .int (if zin asset A then 1 else 0 : Int32)) (met_X1_isAsset hG hT9 hN asset) hT9.o rfl rfl dX0_holding_16 19 rfl rfl rfl (Nat.le_of_ble_eq_true rfl) (by decide) ⟨Nat.zero_le _, Nat.zero_le _⟩ ?_
    refine z_if_eqP hX (zin asset A) dX0_holding_19 22 rfl (tgt := 36) (by decide) (fun c3 => ?_) (fun c3 => ?_)
    ·
      refine z_iconst hX dX0_holding_36 37 rfl zki_m1 ?_
      refine z_sub [0] rfl ?_
      exact z_eqL rfl (by first | (simp only [if_pos c1, if_neg c3] <;> rfl; done) | grind) J2
    ·
      have e_asset := zin_eq c3
      have l_asset := zin_lt c3
      refine z_eqL (L' := [(0, .ref x), (1, .int (nI house.toNatClampNeg)), (2, .int (nI asset.toNatClampNeg))]) (st' := []) (by rw [← e_asset]) (by first | rfl | rw [← e_asset]) ?_
      refine z_aload_n hX dX0_holding_22 23 rfl (i := 0) rfl 0 rfl ?_
      refine z_getf hX fX0_10 hx.o dX0_holding_23 26 rfl (x := .ref t) rfl ?_
      obtain ⟨opr, os1, os2, of1, of2, ob1, ob2, hT9, h19, h29⟩ := id ht
      refine z_getfN hX fX0_87 hT9.o dX0_holding_26 29 rfl (x := .ref (B 3 0)) rfl ?_
      refine z_iload_n hX dX0_holding_29 30 rfl (i := 1) rfl 1 rfl ?_
      obtain ⟨opr, os1, os2, of1, of2, ob1, ob2, hT9, h19, h29⟩ := id ht
      refine z_aaldF hX 2 rfl rfl hT9.h0 (j := house.toNatClampNeg) (by omega) (by decide) rfl dX0_holding_30 31 rfl ?_
      refine z_iload_n hX dX0_holding_31 32 rfl (i := 2) rfl 2 rfl ?_
      obtain ⟨opr, os1, os2, of1, of2, ob1, ob2, hT9, h19, h29⟩ := id ht
      refine z_ialdF hX (hT9.fh house.toNatClampNeg (by omega)) (j := asset.toNatClampNeg) (by omega) (by decide) dX0_holding_32 33 rfl (w := N (40 + (4 * house.toNatClampNeg) + asset.toNatClampNeg)) rfl ?_
      refine z_goto hX dX0_holding_33 (tgt := 37) (by decide) ?_
      refine z_sub [0] rfl ?_
      exact z_eqL rfl (by first | (simp only [if_pos c1, if_pos c3] <;> rfl; done) | grind) J2
def x0_owes (N : Nat → Int32) (H : Nat) (fr : Int32) (to : Int32) : Int32 := (if zin fr H then (if zin to H then N (64 + (6 * fr.toNatClampNeg) + to.toNatClampNeg) else (-1) : Int32) else (-1) : Int32)
set_option maxHeartbeats 4000000 in
theorem met_X0_owes {g : Zg} (hG : zG g) {G : zHG} {xq x dq tp : Nat} {bg : Value} {bl tpd : Int32} {q t : Nat} {B : Nat → Nat → Nat} {N tk cp sh : Nat → Int32} {fc gn : Int32} (hx : zFx G xq x t dq tp bg bl tpd) (ht : zTw g G q t B N tk cp sh fc gn) {A H : Nat} {K : Nat → Nat} (hN : zWf N A H K) (fr : Int32) (to : Int32)  : ZM g yX0_owes cX0_owes 3 (some FieldType.int) 2 0 0 [.ref x, .int fr, .int to] G (zRet (some (.int (x0_owes N H fr to))) G) := by
  unfold x0_owes
  have hN2 := hN.2.1
  have hN4 := hN.2.2.2.1
  refine ZM_mk hG (by decide) (Nat.le_of_ble_eq_true rfl) ?_
  intro X hX hname hQ
  show ZW g X 0 0 G 0 [(0, .ref x), (1, .int fr), (2, .int to)] []
  refine z_aload_n hX dX0_owes_0 1 rfl (i := 0) rfl 0 rfl ?_
  refine z_getf hX fX0_10 hx.o dX0_owes_1 4 rfl (x := .ref t) rfl ?_
  refine z_iload_n hX dX0_owes_4 5 rfl (i := 1) rfl 1 rfl ?_
  obtain ⟨opr, os1, os2, of1, of2, ob1, ob2, hT9, h19, h29⟩ := id ht
  refine z_callVp hX cwX0_72 (w := .int (if zin fr H then 1 else 0 : Int32)) (met_X1_isHouse hG hT9 hN fr) hT9.o rfl rfl dX0_owes_5 8 rfl rfl rfl (Nat.le_of_ble_eq_true rfl) (by decide) ⟨Nat.zero_le _, Nat.zero_le _⟩ ?_
  have J2 : ZW g X 0 0 G 37 [(0, .ref x)] [.int (if zin fr H then (if zin to H then N (64 + (6 * fr.toNatClampNeg) + to.toNatClampNeg) else (-1) : Int32) else (-1) : Int32)] := by
    exact z_iret hX hQ (Nat.zero_le _) (Nat.zero_le _) rfl dX0_owes_37 ⟨rfl, rfl⟩
  refine z_if_eqP hX (zin fr H) dX0_owes_8 11 rfl (tgt := 36) (by decide) (fun c1 => ?_) (fun c1 => ?_)
  ·
    refine z_iconst hX dX0_owes_36 37 rfl zki_m1 ?_
    refine z_sub [0] rfl ?_
    exact z_eqL rfl (by first | (simp only [if_neg c1] <;> rfl; done) | grind) J2
  ·
    have e_fr := zin_eq c1
    have l_fr := zin_lt c1
    refine z_eqL (L' := [(0, .ref x), (1, .int (nI fr.toNatClampNeg)), (2, .int to)]) (st' := []) (by rw [← e_fr]) (by first | rfl | rw [← e_fr]) ?_
    refine z_aload_n hX dX0_owes_11 12 rfl (i := 0) rfl 0 rfl ?_
    refine z_getf hX fX0_10 hx.o dX0_owes_12 15 rfl (x := .ref t) rfl ?_
    refine z_iload_n hX dX0_owes_15 16 rfl (i := 2) rfl 2 rfl ?_
    obtain ⟨opr, os1, os2, of1, of2, ob1, ob2, hT9, h19, h29⟩ := id ht
    refine z_callVp hX cwX0_72 (w := .int (if zin to H then 1 else 0 : Int32)) (met_X1_isHouse hG hT9 hN to) hT9.o rfl rfl dX0_owes_16 19 rfl rfl rfl (Nat.le_of_ble_eq_true rfl) (by decide) ⟨Nat.zero_le _, Nat.zero_le _⟩ ?_
    refine z_if_eqP hX (zin to H) dX0_owes_19 22 rfl (tgt := 36) (by decide) (fun c3 => ?_) (fun c3 => ?_)
    ·
      refine z_iconst hX dX0_owes_36 37 rfl zki_m1 ?_
      refine z_sub [0] rfl ?_
      exact z_eqL rfl (by first | (simp only [if_pos c1, if_neg c3] <;> rfl; done) | grind) J2
    ·
      have e_to := zin_eq c3
      have l_to := zin_lt c3
      refine z_eqL (L' := [(0, .ref x), (1, .int (nI fr.toNatClampNeg)), (2, .int (nI to.toNatClampNeg))]) (st' := []) (by rw [← e_to]) (by first | rfl | rw [← e_to]) ?_
      refine z_aload_n hX dX0_owes_22 23 rfl (i := 0) rfl 0 rfl ?_
      refine z_getf hX fX0_10 hx.o dX0_owes_23 26 rfl (x := .ref t) rfl ?_
      obtain ⟨opr, os1, os2, of1, of2, ob1, ob2, hT9, h19, h29⟩ := id ht
      refine z_getfN hX fX0_92 hT9.o dX0_owes_26 29 rfl (x := .ref (B 4 0)) rfl ?_
      refine z_iload_n hX dX0_owes_29 30 rfl (i := 1) rfl 1 rfl ?_
      obtain ⟨opr, os1, os2, of1, of2, ob1, ob2, hT9, h19, h29⟩ := id ht
      refine z_aaldF hX 2 rfl rfl hT9.l0 (j := fr.toNatClampNeg) (by omega) (by decide) rfl dX0_owes_30 31 rfl ?_
      refine z_iload_n hX dX0_owes_31 32 rfl (i := 2) rfl 2 rfl ?_
      obtain ⟨opr, os1, os2, of1, of2, ob1, ob2, hT9, h19, h29⟩ := id ht
      refine z_ialdF hX (hT9.fl fr.toNatClampNeg (by omega)) (j := to.toNatClampNeg) (by omega) (by decide) dX0_owes_32 33 rfl (w := N (64 + (6 * fr.toNatClampNeg) + to.toNatClampNeg)) rfl ?_
      refine z_goto hX dX0_owes_33 (tgt := 37) (by decide) ?_
      refine z_sub [0] rfl ?_
      exact z_eqL rfl (by first | (simp only [if_pos c1, if_pos c3] <;> rfl; done) | grind) J2
def x0_ofAsset (N : Nat → Int32) (cp : Nat → Int32) (sh : Nat → Int32) (A : Nat) (K : Nat → Nat) (asset : Int32) (what : Int32) : Int32 := (if zin asset A then (if what = 0 then N (2 + asset.toNatClampNeg) else (if what = 1 then N (6 + asset.toNatClampNeg) else (if what = 2 then x1_held N asset.toNatClampNeg else (if what = 3 then x1_cap N cp K asset.toNatClampNeg else (if what = 4 then x1_shocks N sh K asset.toNatClampNeg else (-1) : Int32) : Int32) : Int32) : Int32) : Int32) else (-1) : Int32)
set_option maxHeartbeats 4000000 in
theorem met_X0_ofAsset {g : Zg} (hG : zG g) {G : zHG} {xq x dq tp : Nat} {bg : Value} {bl tpd : Int32} {q t : Nat} {B : Nat → Nat → Nat} {N tk cp sh : Nat → Int32} {fc gn : Int32} (hx : zFx G xq x t dq tp bg bl tpd) (ht : zTw g G q t B N tk cp sh fc gn) {A H : Nat} {K : Nat → Nat} (hN : zWf N A H K) (asset : Int32) (what : Int32)  : ZM g yX0_ofAsset cX0_ofAsset 3 (some FieldType.int) 4 0 0 [.ref x, .int asset, .int what] G (zRet (some (.int (x0_ofAsset N cp sh A K asset what))) G) := by
  unfold x0_ofAsset
  have hN2 := hN.2.1
  have hN4 := hN.2.2.2.1
  refine ZM_mk hG (by decide) (Nat.le_of_ble_eq_true rfl) ?_
  intro X hX hname hQ
  show ZW g X 0 0 G 0 [(0, .ref x), (1, .int asset), (2, .int what)] []
  refine z_aload_n hX dX0_ofAsset_0 1 rfl (i := 0) rfl 0 rfl ?_
  refine z_getf hX fX0_10 hx.o dX0_ofAsset_1 4 rfl (x := .ref t) rfl ?_
  refine z_iload_n hX dX0_ofAsset_4 5 rfl (i := 1) rfl 1 rfl ?_
  obtain ⟨opr, os1, os2, of1, of2, ob1, ob2, hT9, h19, h29⟩ := id ht
  refine z_callVp hX cwX0_82 (w := .int (if zin asset A then 1 else 0 : Int32)) (met_X1_isAsset hG hT9 hN asset) hT9.o rfl rfl dX0_ofAsset_5 8 rfl rfl rfl (Nat.le_of_ble_eq_true rfl) (by decide) ⟨Nat.zero_le _, Nat.zero_le _⟩ ?_
  refine z_if_neP hX (zin asset A) dX0_ofAsset_8 11 rfl (tgt := 13) (by decide) (fun c1 => ?_) (fun c1 => ?_)
  ·
    have e_asset := zin_eq c1
    have l_asset := zin_lt c1
    refine z_eqL (L' := [(0, .ref x), (1, .int (nI asset.toNatClampNeg)), (2, .int what)]) (st' := []) (by rw [← e_asset]) (by first | rfl | rw [← e_asset]) ?_
    refine z_iload_n hX dX0_ofAsset_13 14 rfl (i := 2) rfl 2 rfl ?_
    by_cases s2 : what = 0
    ·
      refine z_eqL (L' := [(0, .ref x), (1, .int (nI asset.toNatClampNeg)), (2, .int 0)]) (st' := [.int 0]) (by rw [s2]) (by rw [s2]) ?_
      refine z_tableIn hX dX0_ofAsset_14 (off := 34) (tgt := 48) (by decide) (by decide) (by decide) (by decide) ?_
      refine z_aload_n hX dX0_ofAsset_48 49 rfl (i := 0) rfl 0 rfl ?_
      refine z_getf hX fX0_10 hx.o dX0_ofAsset_49 52 rfl (x := .ref t) rfl ?_
      obtain ⟨opr, os1, os2, of1, of2, ob1, ob2, hT9, h19, h29⟩ := id ht
      refine z_getfN hX fX0_58 hT9.o dX0_ofAsset_52 55 rfl (x := .ref (B 1 0)) rfl ?_
      refine z_iload_n hX dX0_ofAsset_55 56 rfl (i := 1) rfl 1 rfl ?_
      obtain ⟨opr, os1, os2, of1, of2, ob1, ob2, hT9, h19, h29⟩ := id ht
      refine z_aaldF hX 2 rfl rfl hT9.c0 (j := asset.toNatClampNeg) (by omega) (by decide) rfl dX0_ofAsset_56 57 rfl ?_
      refine z_iload_n hX dX0_ofAsset_57 58 rfl (i := 2) rfl 2 rfl ?_
      obtain ⟨opr, os1, os2, of1, of2, ob1, ob2, hT9, h19, h29⟩ := id ht
      refine z_ialdF hX (hT9.fc asset.toNatClampNeg (by omega)) (j := 0) (by omega) (by decide) dX0_ofAsset_58 59 rfl (w := N (2 + asset.toNatClampNeg)) rfl ?_
      exact z_iret hX hQ (Nat.zero_le _) (Nat.zero_le _) rfl dX0_ofAsset_59 ⟨(by first | (simp only [if_pos c1, if_pos s2] <;> rfl; done) | grind), rfl⟩
    by_cases s3 : what = 1
    ·
      refine z_eqL (L' := [(0, .ref x), (1, .int (nI asset.toNatClampNeg)), (2, .int 1)]) (st' := [.int 1]) (by rw [s3]) (by rw [s3]) ?_
      refine z_tableIn hX dX0_ofAsset_14 (off := 34) (tgt := 48) (by decide) (by decide) (by decide) (by decide) ?_
      refine z_aload_n hX dX0_ofAsset_48 49 rfl (i := 0) rfl 0 rfl ?_
      refine z_getf hX fX0_10 hx.o dX0_ofAsset_49 52 rfl (x := .ref t) rfl ?_
      obtain ⟨opr, os1, os2, of1, of2, ob1, ob2, hT9, h19, h29⟩ := id ht
      refine z_getfN hX fX0_58 hT9.o dX0_ofAsset_52 55 rfl (x := .ref (B 1 0)) rfl ?_
      refine z_iload_n hX dX0_ofAsset_55 56 rfl (i := 1) rfl 1 rfl ?_
      obtain ⟨opr, os1, os2, of1, of2, ob1, ob2, hT9, h19, h29⟩ := id ht
      refine z_aaldF hX 2 rfl rfl hT9.c0 (j := asset.toNatClampNeg) (by omega) (by decide) rfl dX0_ofAsset_56 57 rfl ?_
      refine z_iload_n hX dX0_ofAsset_57 58 rfl (i := 2) rfl 2 rfl ?_
      obtain ⟨opr, os1, os2, of1, of2, ob1, ob2, hT9, h19, h29⟩ := id ht
      refine z_ialdF hX (hT9.fc asset.toNatClampNeg (by omega)) (j := 1) (by omega) (by decide) dX0_ofAsset_58 59 rfl (w := N (6 + asset.toNatClampNeg)) rfl ?_
      exact z_iret hX hQ (Nat.zero_le _) (Nat.zero_le _) rfl dX0_ofAsset_59 ⟨(by first | (simp only [if_pos c1, if_neg s2, if_pos s3] <;> rfl; done) | grind), rfl⟩
    by_cases s4 : what = 2
    ·
      refine z_eqL (L' := [(0, .ref x), (1, .int (nI asset.toNatClampNeg)), (2, .int 2)]) (st' := [.int 2]) (by rw [s4]) (by rw [s4]) ?_
      refine z_tableIn hX dX0_ofAsset_14 (off := 46) (tgt := 60) (by decide) (by decide) (by decide) (by decide) ?_
      refine z_aload_n hX dX0_ofAsset_60 61 rfl (i := 0) rfl 0 rfl ?_
      refine z_getf hX fX0_10 hx.o dX0_ofAsset_61 64 rfl (x := .ref t) rfl ?_
      refine z_iload_n hX dX0_ofAsset_64 65 rfl (i := 1) rfl 1 rfl ?_
      obtain ⟨opr, os1, os2, of1, of2, ob1, ob2, hT9, h19, h29⟩ := id ht
      refine z_callVp hX cwX0_171 (w := .int (x1_held N asset.toNatClampNeg)) (met_X1_held hG hT9 asset.toNatClampNeg (by omega)) hT9.o rfl rfl dX0_ofAsset_65 68 rfl rfl rfl (Nat.le_of_ble_eq_true rfl) (by decide) ⟨Nat.zero_le _, Nat.zero_le _⟩ ?_
      exact z_iret hX hQ (Nat.zero_le _) (Nat.zero_le _) rfl dX0_ofAsset_68 ⟨(by first | (simp only [if_pos c1, if_neg s2, if_neg s3, if_pos s4] <;> rfl; done) | grind), rfl⟩
    by_cases s5 : what = 3
    ·
      refine z_eqL (L' := [(0, .ref x), (1, .int (nI asset.toNatClampNeg)), (2, .int 3)]) (st' := [.int 3]) (by rw [s5]) (by rw [s5]) ?_
      refine z_tableIn hX dX0_ofAsset_14 (off := 55) (tgt := 69) (by decide) (by decide) (by decide) (by decide) ?_
      refine z_aload_n hX dX0_ofAsset_69 70 rfl (i := 0) rfl 0 rfl ?_
      refine z_getf hX fX0_10 hx.o dX0_ofAsset_70 73 rfl (x := .ref t) rfl ?_
      refine z_iload_n hX dX0_ofAsset_73 74 rfl (i := 1) rfl 1 rfl ?_
      obtain ⟨opr, os1, os2, of1, of2, ob1, ob2, hT9, h19, h29⟩ := id ht
      refine z_callVp hX cwX0_174 (w := .int (x1_cap N cp K asset.toNatClampNeg)) (met_X1_cap hG hT9 hN asset.toNatClampNeg (by omega)) hT9.o rfl rfl dX0_ofAsset_74 77 rfl rfl rfl (Nat.le_of_ble_eq_true rfl) (by decide) ⟨Nat.zero_le _, Nat.zero_le _⟩ ?_
      exact z_iret hX hQ (Nat.zero_le _) (Nat.zero_le _) rfl dX0_ofAsset_77 ⟨(by first | (simp only [if_pos c1, if_neg s2, if_neg s3, if_neg s4, if_pos s5] <;> rfl; done) | grind), rfl⟩
    by_cases s6 : what = 4
    ·
      refine z_eqL (L' := [(0, .ref x), (1, .int (nI asset.toNatClampNeg)), (2, .int 4)]) (st' := [.int 4]) (by rw [s6]) (by rw [s6]) ?_
      refine z_tableIn hX dX0_ofAsset_14 (off := 64) (tgt := 78) (by decide) (by decide) (by decide) (by decide) ?_
      refine z_aload_n hX dX0_ofAsset_78 79 rfl (i := 0) rfl 0 rfl ?_
      refine z_getf hX fX0_10 hx.o dX0_ofAsset_79 82 rfl (x := .ref t) rfl ?_
      refine z_iload_n hX dX0_ofAsset_82 83 rfl (i := 1) rfl 1 rfl ?_
      obtain ⟨opr, os1, os2, of1, of2, ob1, ob2, hT9, h19, h29⟩ := id ht
      refine z_callVp hX cwX0_177 (w := .int (x1_shocks N sh K asset.toNatClampNeg)) (met_X1_shocks hG hT9 hN asset.toNatClampNeg (by omega)) hT9.o rfl rfl dX0_ofAsset_83 86 rfl rfl rfl (Nat.le_of_ble_eq_true rfl) (by decide) ⟨Nat.zero_le _, Nat.zero_le _⟩ ?_
      exact z_iret hX hQ (Nat.zero_le _) (Nat.zero_le _) rfl dX0_ofAsset_86 ⟨(by first | (simp only [if_pos c1, if_neg s2, if_neg s3, if_neg s4, if_neg s5, if_pos s6] <;> rfl; done) | grind), rfl⟩
    have ts2 : ¬ (what).toInt = 0 := fun e => s2 (Int32.toInt_inj.mp (e.trans (by decide)))
    have ts3 : ¬ (what).toInt = 1 := fun e => s3 (Int32.toInt_inj.mp (e.trans (by decide)))
    have ts4 : ¬ (what).toInt = 2 := fun e => s4 (Int32.toInt_inj.mp (e.trans (by decide)))
    have ts5 : ¬ (what).toInt = 3 := fun e => s5 (Int32.toInt_inj.mp (e.trans (by decide)))
    have ts6 : ¬ (what).toInt = 4 := fun e => s6 (Int32.toInt_inj.mp (e.trans (by decide)))
    refine z_tableOut hX dX0_ofAsset_14 (by omega) (tgt := 87) (by decide) ?_
    refine z_iconst hX dX0_ofAsset_87 88 rfl zki_m1 ?_
    exact z_iret hX hQ (Nat.zero_le _) (Nat.zero_le _) rfl dX0_ofAsset_88 ⟨(by first | (simp only [if_pos c1, if_neg s2, if_neg s3, if_neg s4, if_neg s5, if_neg s6] <;> rfl; done) | grind), rfl⟩
  ·
    refine z_iconst hX dX0_ofAsset_11 12 rfl zki_m1 ?_
    exact z_iret hX hQ (Nat.zero_le _) (Nat.zero_le _) rfl dX0_ofAsset_12 ⟨(by first | (simp only [if_neg c1] <;> rfl; done) | grind), rfl⟩
noncomputable def x0_state (N : Nat → Int32) (tk : Nat → Int32) (cp : Nat → Int32) (sh : Nat → Int32) (fc : Int32) (A : Nat) (H : Nat) (K : Nat → Nat) (which : Int32) (what : Int32) : Int32 := (if zin which 4 then (if zin what 8 then x1_tells N tk sh (x1_state_res_sold N tk cp sh fc A H K (nI which.toNatClampNeg)) (x1_state_res_fallen N tk cp sh fc A H K (nI which.toNatClampNeg)) A K (nI what.toNatClampNeg) else (-1) : Int32) else (-1) : Int32)
noncomputable def x0_state_gn (N : Nat → Int32) (tk : Nat → Int32) (cp : Nat → Int32) (sh : Nat → Int32) (fc : Int32) (gn : Int32) (A : Nat) (H : Nat) (K : Nat → Nat) (which : Int32) (what : Int32) : Int32 := if zin which 4 then if zin what 8 then x1_state_gn N tk cp sh fc gn A H K (nI which.toNatClampNeg) else gn else gn
set_option maxHeartbeats 4000000 in
theorem met_X0_state {g : Zg} (hG : zG g) {G0 : zHG} {xq x dq tp : Nat} {bg : Value} {bl tpd : Int32} {q t : Nat} {B : Nat → Nat → Nat} {N tk cp sh : Nat → Int32} {fc gn : Int32} (hx : zFx G0 xq x t dq tp bg bl tpd) (ht : zTw g G0 q t B N tk cp sh fc gn) {A H : Nat} {K : Nat → Nat} (hN : zWf N A H K) (ne_x_t_00 : (xq, 0) ≠ (q, 0)) (ne_x_t_01 : (xq, 0) ≠ (q, 1)) (ne_x_t_02 : (xq, 0) ≠ (q, 2)) (which : Int32) (what : Int32)  : ZM g yX0_state cX0_state 3 (some FieldType.int) 10 5 16 [.ref x, .int which, .int what] G0 (fun r G' => r = some (.int (x0_state N tk cp sh fc A H K which what)) ∧ (zFx G' xq x t dq tp bg bl tpd ∧ zTw g G' q t B N tk cp sh fc (x0_state_gn N tk cp sh fc gn A H K which what) ∧ zFrK [(q, 0), (q, 1), (q, 2)] G0 G')) := by
  unfold x0_state x0_state_gn
  have hN2 := hN.2.1
  have hN4 := hN.2.2.2.1
  refine ZM_mk hG (by decide) (Nat.le_of_ble_eq_true rfl) ?_
  intro X hX hname hQ
  obtain ⟨G, hGe⟩ : ∃ z, z = G0 := ⟨_, rfl⟩
  have hM : zFx G xq x t dq tp bg bl tpd ∧ zTw g G q t B N tk cp sh fc gn ∧ zFrK [(q, 0), (q, 1), (q, 2)] G0 G := by rw [hGe]; exact ⟨hx, ht, zFrK.rf⟩
  show ZW g X 0 0 G0 0 [(0, .ref x), (1, .int which), (2, .int what)] []
  rw [← hGe]
  refine z_iload_n hX dX0_state_0 1 rfl (i := 1) rfl 1 rfl ?_
  refine z_callSp hX cwX0_197 (w := .int (if zin which 4 then 1 else 0 : Int32)) (met_X0_isState hG which) dX0_state_1 4 rfl rfl rfl (Nat.le_of_ble_eq_true rfl) (by decide) ⟨Nat.zero_le _, Nat.zero_le _⟩ ?_
  have J2 : ∀ G : zHG, zFx G xq x t dq tp bg bl tpd ∧ zTw g G q t B N tk cp sh fc (if zin which 4 then if zin what 8 then x1_state_gn N tk cp sh fc gn A H K (nI which.toNatClampNeg) else gn else gn) ∧ zFrK [(q, 0), (q, 1), (q, 2)] G0 G → ZW g X 5 16 G 39 [(0, .ref x)] [.int (if zin which 4 then (if zin what 8 then x1_tells N tk sh (x1_state_res_sold N tk cp sh fc A H K (nI which.toNatClampNeg)) (x1_state_res_fallen N tk cp sh fc A H K (nI which.toNatClampNeg)) A K (nI what.toNatClampNeg) else (-1) : Int32) else (-1) : Int32)] := by
    intro G hM
    exact z_iret hX hQ (by omega) (by omega) rfl dX0_state_39 ⟨rfl, hM⟩
  refine z_if_eqP hX (zin which 4) dX0_state_4 7 rfl (tgt := 38) (by decide) (fun c1 => ?_) (fun c1 => ?_)
  ·
    refine z_iconst hX dX0_state_38 39 rfl zki_m1 ?_
    refine z_sub [0] rfl ?_
    refine z_widen (u' := 5) (v' := 16) (by omega) (by omega) ?_
    exact z_eqL rfl (by first | (simp only [if_neg c1] <;> rfl; done) | grind) (J2 _ (by first | (simpa only [if_neg c1] using hM) | ((try simp only [if_neg c1]); exact hM)))
  ·
    have e_which := zin_eq c1
    have l_which := zin_lt c1
    refine z_eqL (L' := [(0, .ref x), (1, .int (nI which.toNatClampNeg)), (2, .int what)]) (st' := []) (by rw [← e_which]) (by first | rfl | rw [← e_which]) ?_
    refine z_iload_n hX dX0_state_7 8 rfl (i := 2) rfl 2 rfl ?_
    refine z_i2l hX dX0_state_8 9 rfl (w := (what).toInt64) (by first | rfl | decide) ?_
    refine z_lconst hX dX0_state_9 10 rfl (w := 0) rfl ?_
    refine z_ldc2 hX q899 dX0_state_10 13 rfl ?_
    refine z_eqL (L' := [(0, .ref x), (1, .int (nI which.toNatClampNeg)), (2, .int what)]) (st' := [.long ((7 : Int32).toInt64), .long ((0 : Int32).toInt64), .long ((what).toInt64)]) rfl (by rfl) ?_
    refine z_callSp hX cwX0_45 (w := .int (if zin what 8 then 1 else 0 : Int32)) (met_X0_inz hG what 7 8 (by decide)) dX0_state_13 16 rfl rfl rfl (Nat.le_of_ble_eq_true rfl) (by decide) ⟨Nat.zero_le _, Nat.zero_le _⟩ ?_
    refine z_if_eqP hX (zin what 8) dX0_state_16 19 rfl (tgt := 38) (by decide) (fun c3 => ?_) (fun c3 => ?_)
    ·
      refine z_iconst hX dX0_state_38 39 rfl zki_m1 ?_
      refine z_sub [0] rfl ?_
      refine z_widen (u' := 5) (v' := 16) (by omega) (by omega) ?_
      exact z_eqL rfl (by first | (simp only [if_pos c1, if_neg c3] <;> rfl; done) | grind) (J2 _ (by first | (simpa only [if_pos c1, if_neg c3] using hM) | ((try simp only [if_pos c1]); (try simp only [if_neg c3]); exact hM)))
    ·
      have e_what := zin_eq c3
      have l_what := zin_lt c3
      refine z_eqL (L' := [(0, .ref x), (1, .int (nI which.toNatClampNeg)), (2, .int (nI what.toNatClampNeg))]) (st' := []) (by rw [← e_what]) (by first | rfl | rw [← e_what]) ?_
      refine z_aload_n hX dX0_state_19 20 rfl (i := 0) rfl 0 rfl ?_
      refine z_getf hX fX0_10 hM.1.o dX0_state_20 23 rfl (x := .ref t) rfl ?_
      refine z_aload_n hX dX0_state_23 24 rfl (i := 0) rfl 0 rfl ?_
      refine z_getf hX fX0_10 hM.1.o dX0_state_24 27 rfl (x := .ref t) rfl ?_
      refine z_iload_n hX dX0_state_27 28 rfl (i := 1) rfl 1 rfl ?_
      obtain ⟨fs9, ho9⟩ := hM.2.1.o
      refine z_callV hX cwX0_202 (met_X1_state hG hM.2.1 hN (nI which.toNatClampNeg)) ho9 rfl rfl dX0_state_28 31 rfl rfl rfl (Nat.le_of_ble_eq_true rfl) (by decide) ⟨by omega, by omega⟩ (fun r G hP => ?_)
      obtain ⟨ns28, s28, bs28, hzs28, rfl, hP⟩ := hP
      have ne_x_s28 : (xq, 0) ≠ (ns28, 0) := hzs28.neT hM.1.o
      obtain ⟨fs9, ho9⟩ := hM.2.1.o
      have ne_t_s28_0 : (q, 0) ≠ (ns28, 0) := hzs28.neT ho9
      have ne_t_s28_1 : (q, 1) ≠ (ns28, 0) := hzs28.neT ho9
      have ne_t_s28_2 : (q, 2) ≠ (ns28, 0) := hzs28.neT ho9
      have nq_t_s28 : q ≠ ns28 := hzs28 _ _ _ ho9
      have fn_s28 : zFresh G0 ns28 := hzs28.of' hM.2.2 (zfm1 nq_t_s28 (zfm1 nq_t_s28 (zfm1 nq_t_s28 zfm0)))
      have hM : zFx G xq x t dq tp bg bl tpd ∧ zTw g G q t B N tk cp sh fc (x1_state_gn N tk cp sh fc gn A H K (nI which.toNatClampNeg)) ∧ zSt g G (ns28, 0) s28 bs28 (x1_state_res_sold N tk cp sh fc A H K (nI which.toNatClampNeg)) (x1_state_res_fallen N tk cp sh fc A H K (nI which.toNatClampNeg)) ∧ zFrK [(q, 0), (q, 1), (q, 2)] G0 G := ⟨hM.1.kp (hP.2.2.kp (zni1 ne_x_t_00 (zni1 ne_x_t_01 (zni1 ne_x_t_02 zni0)))), hP.1, hP.2.1, hM.2.2.stepL hP.2.2 (zml1 (Or.inl List.mem_cons_self) (zml1 (Or.inl (List.mem_cons_of_mem _ List.mem_cons_self)) (zml1 (Or.inl (List.mem_cons_of_mem _ (List.mem_cons_of_mem _ List.mem_cons_self))) zml0)))⟩
      show ZW g X 5 16 G 31 [(0, .ref x), (1, .int (nI which.toNatClampNeg)), (2, .int (nI what.toNatClampNeg))] [.ref s28, .ref t]
      refine z_iload_n hX dX0_state_31 32 rfl (i := 2) rfl 2 rfl ?_
      obtain ⟨opr, os1, os2, of1, of2, ob1, ob2, hT9, h19, h29⟩ := id hM.2.1
      refine z_callVp hX cwX0_206 (w := .int (x1_tells N tk sh (x1_state_res_sold N tk cp sh fc A H K (nI which.toNatClampNeg)) (x1_state_res_fallen N tk cp sh fc A H K (nI which.toNatClampNeg)) A K (nI what.toNatClampNeg))) (met_X1_tells hG hT9 hM.2.2.1 hN (nI what.toNatClampNeg)) hT9.o rfl rfl dX0_state_32 35 rfl rfl rfl (Nat.le_of_ble_eq_true rfl) (by decide) ⟨by omega, by omega⟩ ?_
      refine z_goto hX dX0_state_35 (tgt := 39) (by decide) ?_
      have hM : zFx G xq x t dq tp bg bl tpd ∧ zTw g G q t B N tk cp sh fc (x1_state_gn N tk cp sh fc gn A H K (nI which.toNatClampNeg)) ∧ zFrK [(q, 0), (q, 1), (q, 2)] G0 G := ⟨hM.1, hM.2.1, hM.2.2.2⟩
      refine z_sub [0] rfl ?_
      exact z_eqL rfl (by first | (simp only [if_pos c1, if_pos c3] <;> rfl; done) | grind) (J2 _ (by first | (simpa only [if_pos c1, if_pos c3] using hM) | ((try simp only [if_pos c1]); (try simp only [if_pos c3]); exact hM)))
noncomputable def x0_rounds (N : Nat → Int32) (tk : Nat → Int32) (cp : Nat → Int32) (sh : Nat → Int32) (fc : Int32) (A : Nat) (H : Nat) (K : Nat → Nat) (greatest : Prop) [Decidable greatest] : Int32 := nI (if greatest then fs_gone N tk cp sh fc A H K ((x1_panic_res_sold N cp A K), (x1_panic_res_fallen H)) zForever else fs_gone N tk cp sh fc A H K (x1_calm_res_sold, (x1_calm_res_fallen fc)) zForever)
noncomputable def x0_rounds_gn (N : Nat → Int32) (tk : Nat → Int32) (cp : Nat → Int32) (sh : Nat → Int32) (fc : Int32) (A : Nat) (H : Nat) (K : Nat → Nat) (greatest : Prop) [Decidable greatest] : Int32 := if greatest then x1_rounds_gn N tk cp sh fc (x1_panic_res_sold N cp A K) (x1_panic_res_fallen H) A H K else x1_rounds_gn N tk cp sh fc x1_calm_res_sold (x1_calm_res_fallen fc) A H K
set_option maxHeartbeats 4000000 in
theorem met_X0_rounds {g : Zg} (hG : zG g) {G0 : zHG} {xq x dq tp : Nat} {bg : Value} {bl tpd : Int32} {q t : Nat} {B : Nat → Nat → Nat} {N tk cp sh : Nat → Int32} {fc gn : Int32} (hx : zFx G0 xq x t dq tp bg bl tpd) (ht : zTw g G0 q t B N tk cp sh fc gn) {A H : Nat} {K : Nat → Nat} (hN : zWf N A H K) (ne_x_t_00 : (xq, 0) ≠ (q, 0)) (ne_x_t_01 : (xq, 0) ≠ (q, 1)) (ne_x_t_02 : (xq, 0) ≠ (q, 2)) (greatest : Prop) [Decidable greatest]  : ZM g yX0_rounds cX0_rounds 2 (some FieldType.int) 9 5 16 [.ref x, .int (if greatest then 1 else 0 : Int32)] G0 (fun r G' => r = some (.int (x0_rounds N tk cp sh fc A H K greatest)) ∧ (zFx G' xq x t dq tp bg bl tpd ∧ zTw g G' q t B N tk cp sh fc (x0_rounds_gn N tk cp sh fc A H K greatest) ∧ zFrK [(q, 0), (q, 1), (q, 2)] G0 G')) := by
  unfold x0_rounds x0_rounds_gn
  have hN2 := hN.2.1
  have hN4 := hN.2.2.2.1
  refine ZM_mk hG (by decide) (Nat.le_of_ble_eq_true rfl) ?_
  intro X hX hname hQ
  obtain ⟨G, hGe⟩ : ∃ z, z = G0 := ⟨_, rfl⟩
  have hM : zFx G xq x t dq tp bg bl tpd ∧ zTw g G q t B N tk cp sh fc gn ∧ zFrK [(q, 0), (q, 1), (q, 2)] G0 G := by rw [hGe]; exact ⟨hx, ht, zFrK.rf⟩
  show ZW g X 0 0 G0 0 [(0, .ref x), (1, .int (if greatest then 1 else 0 : Int32))] []
  rw [← hGe]
  refine z_aload_n hX dX0_rounds_0 1 rfl (i := 0) rfl 0 rfl ?_
  refine z_getf hX fX0_10 hM.1.o dX0_rounds_1 4 rfl (x := .ref t) rfl ?_
  refine z_iload_n hX dX0_rounds_4 5 rfl (i := 1) rfl 1 rfl ?_
  refine z_if_eqP hX (greatest) dX0_rounds_5 8 rfl (tgt := 18) (by decide) (fun c1 => ?_) (fun c1 => ?_)
  ·
    refine z_aload_n hX dX0_rounds_18 19 rfl (i := 0) rfl 0 rfl ?_
    refine z_getf hX fX0_10 hM.1.o dX0_rounds_19 22 rfl (x := .ref t) rfl ?_
    obtain ⟨opr, os1, os2, of1, of2, ob1, ob2, hT9, h19, h29⟩ := id hM.2.1
    refine z_callV hX cwX0_213 (met_X1_calm hG hT9) hT9.o rfl rfl dX0_rounds_22 25 rfl rfl rfl (Nat.le_of_ble_eq_true rfl) (by decide) ⟨by omega, by omega⟩ (fun r G hP => ?_)
    obtain ⟨ns22, s22, bs22, hzs22, rfl, hP⟩ := hP
    have ne_x_s22 : (xq, 0) ≠ (ns22, 0) := hzs22.neT hM.1.o
    obtain ⟨fs9, ho9⟩ := hM.2.1.o
    have ne_t_s22_0 : (q, 0) ≠ (ns22, 0) := hzs22.neT ho9
    have ne_t_s22_1 : (q, 1) ≠ (ns22, 0) := hzs22.neT ho9
    have ne_t_s22_2 : (q, 2) ≠ (ns22, 0) := hzs22.neT ho9
    have nq_t_s22 : q ≠ ns22 := hzs22 _ _ _ ho9
    have fn_s22 : zFresh G0 ns22 := hzs22.of' hM.2.2 (zfm1 nq_t_s22 (zfm1 nq_t_s22 (zfm1 nq_t_s22 zfm0)))
    have hM : zFx G xq x t dq tp bg bl tpd ∧ zTw g G q t B N tk cp sh fc gn ∧ zSt g G (ns22, 0) s22 bs22 x1_calm_res_sold (x1_calm_res_fallen fc) ∧ zFrK [(q, 0), (q, 1), (q, 2)] G0 G := ⟨hM.1.kp (hP.2.2.kp zni0), ⟨_, os1, os2, of1, of2, ob1, ob2, hP.1, h19.kp (hP.2.2.kp zni0), h29.kp (hP.2.2.kp zni0)⟩, hP.2.1, hM.2.2.stepL hP.2.2 zml0⟩
    show ZW g X 2 6 G 25 [(0, .ref x), (1, .int (if greatest then 1 else 0 : Int32))] [.ref s22, .ref t]
    obtain ⟨fs9, ho9⟩ := hM.2.1.o
    refine z_callV hX cwX0_216 (met_X1_rounds hG hM.2.1 hM.2.2.1 hN ne_t_s22_0 ne_t_s22_1 ne_t_s22_2) ho9 rfl rfl dX0_rounds_25 28 rfl rfl rfl (Nat.le_of_ble_eq_true rfl) (by decide) ⟨by omega, by omega⟩ (fun r G hP => ?_)
    obtain ⟨rfl, hP⟩ := hP
    have hM : zFx G xq x t dq tp bg bl tpd ∧ zTw g G q t B N tk cp sh fc (x1_rounds_gn N tk cp sh fc x1_calm_res_sold (x1_calm_res_fallen fc) A H K) ∧ zSt g G (ns22, 0) s22 bs22 x1_calm_res_sold (x1_calm_res_fallen fc) ∧ zFrK [(q, 0), (q, 1), (q, 2)] G0 G := ⟨hM.1.kp (hP.2.2.kp (zni1 ne_x_t_00 (zni1 ne_x_t_01 (zni1 ne_x_t_02 zni0)))), hP.1, hP.2.1, hM.2.2.2.stepL hP.2.2 (zml1 (Or.inl List.mem_cons_self) (zml1 (Or.inl (List.mem_cons_of_mem _ List.mem_cons_self)) (zml1 (Or.inl (List.mem_cons_of_mem _ (List.mem_cons_of_mem _ List.mem_cons_self))) zml0)))⟩
    show ZW g X 5 16 G 28 [(0, .ref x), (1, .int (if greatest then 1 else 0 : Int32))] [.int (nI (fs_gone N tk cp sh fc A H K (x1_calm_res_sold, (x1_calm_res_fallen fc)) zForever))]
    have hgo25 : fs_gone N tk cp sh fc A H K (x1_calm_res_sold, (x1_calm_res_fallen fc)) zForever < 1000001 := Nat.lt_of_le_of_lt fs_gone_le zFor_lt
    have hM : zFx G xq x t dq tp bg bl tpd ∧ zTw g G q t B N tk cp sh fc (x1_rounds_gn N tk cp sh fc x1_calm_res_sold (x1_calm_res_fallen fc) A H K) ∧ zFrK [(q, 0), (q, 1), (q, 2)] G0 G := ⟨hM.1, hM.2.1, hM.2.2.2⟩
    exact z_iret hX hQ (by omega) (by omega) rfl dX0_rounds_28 ⟨(by first | (simp only [if_neg c1] <;> rfl; done) | grind), (by first | (simpa only [if_neg c1] using hM) | ((try simp only [if_neg c1]); exact hM))⟩
  ·
    refine z_aload_n hX dX0_rounds_8 9 rfl (i := 0) rfl 0 rfl ?_
    refine z_getf hX fX0_10 hM.1.o dX0_rounds_9 12 rfl (x := .ref t) rfl ?_
    obtain ⟨opr, os1, os2, of1, of2, ob1, ob2, hT9, h19, h29⟩ := id hM.2.1
    refine z_callV hX cwX0_210 (met_X1_panic hG hT9 hN) hT9.o rfl rfl dX0_rounds_12 15 rfl rfl rfl (Nat.le_of_ble_eq_true rfl) (by decide) ⟨by omega, by omega⟩ (fun r G hP => ?_)
    obtain ⟨ns12, s12, bs12, hzs12, rfl, hP⟩ := hP
    have ne_x_s12 : (xq, 0) ≠ (ns12, 0) := hzs12.neT hM.1.o
    obtain ⟨fs9, ho9⟩ := hM.2.1.o
    have ne_t_s12_0 : (q, 0) ≠ (ns12, 0) := hzs12.neT ho9
    have ne_t_s12_1 : (q, 1) ≠ (ns12, 0) := hzs12.neT ho9
    have ne_t_s12_2 : (q, 2) ≠ (ns12, 0) := hzs12.neT ho9
    have nq_t_s12 : q ≠ ns12 := hzs12 _ _ _ ho9
    have fn_s12 : zFresh G0 ns12 := hzs12.of' hM.2.2 (zfm1 nq_t_s12 (zfm1 nq_t_s12 (zfm1 nq_t_s12 zfm0)))
    have hM : zFx G xq x t dq tp bg bl tpd ∧ zTw g G q t B N tk cp sh fc gn ∧ zSt g G (ns12, 0) s12 bs12 (x1_panic_res_sold N cp A K) (x1_panic_res_fallen H) ∧ zFrK [(q, 0), (q, 1), (q, 2)] G0 G := ⟨hM.1.kp (hP.2.2.kp zni0), ⟨_, os1, os2, of1, of2, ob1, ob2, hP.1, h19.kp (hP.2.2.kp zni0), h29.kp (hP.2.2.kp zni0)⟩, hP.2.1, hM.2.2.stepL hP.2.2 zml0⟩
    show ZW g X 2 6 G 15 [(0, .ref x), (1, .int (if greatest then 1 else 0 : Int32))] [.ref s12, .ref t]
    refine z_goto hX dX0_rounds_15 (tgt := 25) (by decide) ?_
    obtain ⟨fs9, ho9⟩ := hM.2.1.o
    refine z_callV hX cwX0_216 (met_X1_rounds hG hM.2.1 hM.2.2.1 hN ne_t_s12_0 ne_t_s12_1 ne_t_s12_2) ho9 rfl rfl dX0_rounds_25 28 rfl rfl rfl (Nat.le_of_ble_eq_true rfl) (by decide) ⟨by omega, by omega⟩ (fun r G hP => ?_)
    obtain ⟨rfl, hP⟩ := hP
    have hM : zFx G xq x t dq tp bg bl tpd ∧ zTw g G q t B N tk cp sh fc (x1_rounds_gn N tk cp sh fc (x1_panic_res_sold N cp A K) (x1_panic_res_fallen H) A H K) ∧ zSt g G (ns12, 0) s12 bs12 (x1_panic_res_sold N cp A K) (x1_panic_res_fallen H) ∧ zFrK [(q, 0), (q, 1), (q, 2)] G0 G := ⟨hM.1.kp (hP.2.2.kp (zni1 ne_x_t_00 (zni1 ne_x_t_01 (zni1 ne_x_t_02 zni0)))), hP.1, hP.2.1, hM.2.2.2.stepL hP.2.2 (zml1 (Or.inl List.mem_cons_self) (zml1 (Or.inl (List.mem_cons_of_mem _ List.mem_cons_self)) (zml1 (Or.inl (List.mem_cons_of_mem _ (List.mem_cons_of_mem _ List.mem_cons_self))) zml0)))⟩
    show ZW g X 5 16 G 28 [(0, .ref x), (1, .int (if greatest then 1 else 0 : Int32))] [.int (nI (fs_gone N tk cp sh fc A H K ((x1_panic_res_sold N cp A K), (x1_panic_res_fallen H)) zForever))]
    have hgo25 : fs_gone N tk cp sh fc A H K ((x1_panic_res_sold N cp A K), (x1_panic_res_fallen H)) zForever < 1000001 := Nat.lt_of_le_of_lt fs_gone_le zFor_lt
    have hM : zFx G xq x t dq tp bg bl tpd ∧ zTw g G q t B N tk cp sh fc (x1_rounds_gn N tk cp sh fc (x1_panic_res_sold N cp A K) (x1_panic_res_fallen H) A H K) ∧ zFrK [(q, 0), (q, 1), (q, 2)] G0 G := ⟨hM.1, hM.2.1, hM.2.2.2⟩
    exact z_iret hX hQ (by omega) (by omega) rfl dX0_rounds_28 ⟨(by first | (simp only [if_pos c1] <;> rfl; done) | grind), (by first | (simpa only [if_pos c1] using hM) | ((try simp only [if_pos c1]); exact hM))⟩
noncomputable def x0_price (N : Nat → Int32) (tk : Nat → Int32) (cp : Nat → Int32) (sh : Nat → Int32) (fc : Int32) (A : Nat) (H : Nat) (K : Nat → Nat) (which : Int32) (asset : Int32) : Int32 := (if zin which 4 then (if zin asset A then x1_price N tk sh (x1_state_res_sold N tk cp sh fc A H K (nI which.toNatClampNeg)) K asset.toNatClampNeg else (-1) : Int32) else (-1) : Int32)
noncomputable def x0_price_gn (N : Nat → Int32) (tk : Nat → Int32) (cp : Nat → Int32) (sh : Nat → Int32) (fc : Int32) (gn : Int32) (A : Nat) (H : Nat) (K : Nat → Nat) (which : Int32) (asset : Int32) : Int32 := if zin which 4 then if zin asset A then x1_state_gn N tk cp sh fc gn A H K (nI which.toNatClampNeg) else gn else gn
set_option maxHeartbeats 4000000 in
theorem met_X0_price {g : Zg} (hG : zG g) {G0 : zHG} {xq x dq tp : Nat} {bg : Value} {bl tpd : Int32} {q t : Nat} {B : Nat → Nat → Nat} {N tk cp sh : Nat → Int32} {fc gn : Int32} (hx : zFx G0 xq x t dq tp bg bl tpd) (ht : zTw g G0 q t B N tk cp sh fc gn) {A H : Nat} {K : Nat → Nat} (hN : zWf N A H K) (ne_x_t_00 : (xq, 0) ≠ (q, 0)) (ne_x_t_01 : (xq, 0) ≠ (q, 1)) (ne_x_t_02 : (xq, 0) ≠ (q, 2)) (which : Int32) (asset : Int32)  : ZM g yX0_price cX0_price 3 (some FieldType.int) 10 5 16 [.ref x, .int which, .int asset] G0 (fun r G' => r = some (.int (x0_price N tk cp sh fc A H K which asset)) ∧ (zFx G' xq x t dq tp bg bl tpd ∧ zTw g G' q t B N tk cp sh fc (x0_price_gn N tk cp sh fc gn A H K which asset) ∧ zFrK [(q, 0), (q, 1), (q, 2)] G0 G')) := by
  unfold x0_price x0_price_gn
  have hN2 := hN.2.1
  have hN4 := hN.2.2.2.1
  refine ZM_mk hG (by decide) (Nat.le_of_ble_eq_true rfl) ?_
  intro X hX hname hQ
  obtain ⟨G, hGe⟩ : ∃ z, z = G0 := ⟨_, rfl⟩
  have hM : zFx G xq x t dq tp bg bl tpd ∧ zTw g G q t B N tk cp sh fc gn ∧ zFrK [(q, 0), (q, 1), (q, 2)] G0 G := by rw [hGe]; exact ⟨hx, ht, zFrK.rf⟩
  show ZW g X 0 0 G0 0 [(0, .ref x), (1, .int which), (2, .int asset)] []
  rw [← hGe]
  refine z_iload_n hX dX0_price_0 1 rfl (i := 1) rfl 1 rfl ?_
  refine z_callSp hX cwX0_197 (w := .int (if zin which 4 then 1 else 0 : Int32)) (met_X0_isState hG which) dX0_price_1 4 rfl rfl rfl (Nat.le_of_ble_eq_true rfl) (by decide) ⟨Nat.zero_le _, Nat.zero_le _⟩ ?_
  have J2 : ∀ G : zHG, zFx G xq x t dq tp bg bl tpd ∧ zTw g G q t B N tk cp sh fc (if zin which 4 then if zin asset A then x1_state_gn N tk cp sh fc gn A H K (nI which.toNatClampNeg) else gn else gn) ∧ zFrK [(q, 0), (q, 1), (q, 2)] G0 G → ZW g X 5 16 G 38 [(0, .ref x)] [.int (if zin which 4 then (if zin asset A then x1_price N tk sh (x1_state_res_sold N tk cp sh fc A H K (nI which.toNatClampNeg)) K asset.toNatClampNeg else (-1) : Int32) else (-1) : Int32)] := by
    intro G hM
    exact z_iret hX hQ (by omega) (by omega) rfl dX0_price_38 ⟨rfl, hM⟩
  refine z_if_eqP hX (zin which 4) dX0_price_4 7 rfl (tgt := 37) (by decide) (fun c1 => ?_) (fun c1 => ?_)
  ·
    refine z_iconst hX dX0_price_37 38 rfl zki_m1 ?_
    refine z_sub [0] rfl ?_
    refine z_widen (u' := 5) (v' := 16) (by omega) (by omega) ?_
    exact z_eqL rfl (by first | (simp only [if_neg c1] <;> rfl; done) | grind) (J2 _ (by first | (simpa only [if_neg c1] using hM) | ((try simp only [if_neg c1]); exact hM)))
  ·
    have e_which := zin_eq c1
    have l_which := zin_lt c1
    refine z_eqL (L' := [(0, .ref x), (1, .int (nI which.toNatClampNeg)), (2, .int asset)]) (st' := []) (by rw [← e_which]) (by first | rfl | rw [← e_which]) ?_
    refine z_aload_n hX dX0_price_7 8 rfl (i := 0) rfl 0 rfl ?_
    refine z_getf hX fX0_10 hM.1.o dX0_price_8 11 rfl (x := .ref t) rfl ?_
    refine z_iload_n hX dX0_price_11 12 rfl (i := 2) rfl 2 rfl ?_
    obtain ⟨opr, os1, os2, of1, of2, ob1, ob2, hT9, h19, h29⟩ := id hM.2.1
    refine z_callVp hX cwX0_82 (w := .int (if zin asset A then 1 else 0 : Int32)) (met_X1_isAsset hG hT9 hN asset) hT9.o rfl rfl dX0_price_12 15 rfl rfl rfl (Nat.le_of_ble_eq_true rfl) (by decide) ⟨Nat.zero_le _, Nat.zero_le _⟩ ?_
    refine z_if_eqP hX (zin asset A) dX0_price_15 18 rfl (tgt := 37) (by decide) (fun c3 => ?_) (fun c3 => ?_)
    ·
      refine z_iconst hX dX0_price_37 38 rfl zki_m1 ?_
      refine z_sub [0] rfl ?_
      refine z_widen (u' := 5) (v' := 16) (by omega) (by omega) ?_
      exact z_eqL rfl (by first | (simp only [if_pos c1, if_neg c3] <;> rfl; done) | grind) (J2 _ (by first | (simpa only [if_pos c1, if_neg c3] using hM) | ((try simp only [if_pos c1]); (try simp only [if_neg c3]); exact hM)))
    ·
      have e_asset := zin_eq c3
      have l_asset := zin_lt c3
      refine z_eqL (L' := [(0, .ref x), (1, .int (nI which.toNatClampNeg)), (2, .int (nI asset.toNatClampNeg))]) (st' := []) (by rw [← e_asset]) (by first | rfl | rw [← e_asset]) ?_
      refine z_aload_n hX dX0_price_18 19 rfl (i := 0) rfl 0 rfl ?_
      refine z_getf hX fX0_10 hM.1.o dX0_price_19 22 rfl (x := .ref t) rfl ?_
      refine z_aload_n hX dX0_price_22 23 rfl (i := 0) rfl 0 rfl ?_
      refine z_getf hX fX0_10 hM.1.o dX0_price_23 26 rfl (x := .ref t) rfl ?_
      refine z_iload_n hX dX0_price_26 27 rfl (i := 1) rfl 1 rfl ?_
      obtain ⟨fs9, ho9⟩ := hM.2.1.o
      refine z_callV hX cwX0_202 (met_X1_state hG hM.2.1 hN (nI which.toNatClampNeg)) ho9 rfl rfl dX0_price_27 30 rfl rfl rfl (Nat.le_of_ble_eq_true rfl) (by decide) ⟨by omega, by omega⟩ (fun r G hP => ?_)
      obtain ⟨ns27, s27, bs27, hzs27, rfl, hP⟩ := hP
      have ne_x_s27 : (xq, 0) ≠ (ns27, 0) := hzs27.neT hM.1.o
      obtain ⟨fs9, ho9⟩ := hM.2.1.o
      have ne_t_s27_0 : (q, 0) ≠ (ns27, 0) := hzs27.neT ho9
      have ne_t_s27_1 : (q, 1) ≠ (ns27, 0) := hzs27.neT ho9
      have ne_t_s27_2 : (q, 2) ≠ (ns27, 0) := hzs27.neT ho9
      have nq_t_s27 : q ≠ ns27 := hzs27 _ _ _ ho9
      have fn_s27 : zFresh G0 ns27 := hzs27.of' hM.2.2 (zfm1 nq_t_s27 (zfm1 nq_t_s27 (zfm1 nq_t_s27 zfm0)))
      have hM : zFx G xq x t dq tp bg bl tpd ∧ zTw g G q t B N tk cp sh fc (x1_state_gn N tk cp sh fc gn A H K (nI which.toNatClampNeg)) ∧ zSt g G (ns27, 0) s27 bs27 (x1_state_res_sold N tk cp sh fc A H K (nI which.toNatClampNeg)) (x1_state_res_fallen N tk cp sh fc A H K (nI which.toNatClampNeg)) ∧ zFrK [(q, 0), (q, 1), (q, 2)] G0 G := ⟨hM.1.kp (hP.2.2.kp (zni1 ne_x_t_00 (zni1 ne_x_t_01 (zni1 ne_x_t_02 zni0)))), hP.1, hP.2.1, hM.2.2.stepL hP.2.2 (zml1 (Or.inl List.mem_cons_self) (zml1 (Or.inl (List.mem_cons_of_mem _ List.mem_cons_self)) (zml1 (Or.inl (List.mem_cons_of_mem _ (List.mem_cons_of_mem _ List.mem_cons_self))) zml0)))⟩
      show ZW g X 5 16 G 30 [(0, .ref x), (1, .int (nI which.toNatClampNeg)), (2, .int (nI asset.toNatClampNeg))] [.ref s27, .ref t]
      refine z_iload_n hX dX0_price_30 31 rfl (i := 2) rfl 2 rfl ?_
      obtain ⟨opr, os1, os2, of1, of2, ob1, ob2, hT9, h19, h29⟩ := id hM.2.1
      refine z_callVp hX cwX0_219 (w := .int (x1_price N tk sh (x1_state_res_sold N tk cp sh fc A H K (nI which.toNatClampNeg)) K asset.toNatClampNeg)) (met_X1_price hG hT9 hM.2.2.1 hN asset.toNatClampNeg (by omega)) hT9.o rfl rfl dX0_price_31 34 rfl rfl rfl (Nat.le_of_ble_eq_true rfl) (by decide) ⟨by omega, by omega⟩ ?_
      refine z_goto hX dX0_price_34 (tgt := 38) (by decide) ?_
      have hM : zFx G xq x t dq tp bg bl tpd ∧ zTw g G q t B N tk cp sh fc (x1_state_gn N tk cp sh fc gn A H K (nI which.toNatClampNeg)) ∧ zFrK [(q, 0), (q, 1), (q, 2)] G0 G := ⟨hM.1, hM.2.1, hM.2.2.2⟩
      refine z_sub [0] rfl ?_
      exact z_eqL rfl (by first | (simp only [if_pos c1, if_pos c3] <;> rfl; done) | grind) (J2 _ (by first | (simpa only [if_pos c1, if_pos c3] using hM) | ((try simp only [if_pos c1]); (try simp only [if_pos c3]); exact hM)))
noncomputable def x0_worth (N : Nat → Int32) (tk : Nat → Int32) (cp : Nat → Int32) (sh : Nat → Int32) (fc : Int32) (A : Nat) (H : Nat) (K : Nat → Nat) (which : Int32) (house : Int32) : Int32 := (if zin which 4 then (if zin house H then x1_worthW N tk sh (x1_state_res_sold N tk cp sh fc A H K (nI which.toNatClampNeg)) (x1_state_res_fallen N tk cp sh fc A H K (nI which.toNatClampNeg)) A H K house.toNatClampNeg else (-1000000) : Int32) else (-1000000) : Int32)
noncomputable def x0_worth_gn (N : Nat → Int32) (tk : Nat → Int32) (cp : Nat → Int32) (sh : Nat → Int32) (fc : Int32) (gn : Int32) (A : Nat) (H : Nat) (K : Nat → Nat) (which : Int32) (house : Int32) : Int32 := if zin which 4 then if zin house H then x1_state_gn N tk cp sh fc gn A H K (nI which.toNatClampNeg) else gn else gn
set_option maxHeartbeats 4000000 in
theorem met_X0_worth {g : Zg} (hG : zG g) {G0 : zHG} {xq x dq tp : Nat} {bg : Value} {bl tpd : Int32} {q t : Nat} {B : Nat → Nat → Nat} {N tk cp sh : Nat → Int32} {fc gn : Int32} (hx : zFx G0 xq x t dq tp bg bl tpd) (ht : zTw g G0 q t B N tk cp sh fc gn) {A H : Nat} {K : Nat → Nat} (hN : zWf N A H K) (ne_x_t_00 : (xq, 0) ≠ (q, 0)) (ne_x_t_01 : (xq, 0) ≠ (q, 1)) (ne_x_t_02 : (xq, 0) ≠ (q, 2)) (which : Int32) (house : Int32)  : ZM g yX0_worth cX0_worth 3 (some FieldType.int) 10 5 16 [.ref x, .int which, .int house] G0 (fun r G' => r = some (.int (x0_worth N tk cp sh fc A H K which house)) ∧ (zFx G' xq x t dq tp bg bl tpd ∧ zTw g G' q t B N tk cp sh fc (x0_worth_gn N tk cp sh fc gn A H K which house) ∧ zFrK [(q, 0), (q, 1), (q, 2)] G0 G')) := by
  unfold x0_worth x0_worth_gn
  have hN2 := hN.2.1
  have hN4 := hN.2.2.2.1
  refine ZM_mk hG (by decide) (Nat.le_of_ble_eq_true rfl) ?_
  intro X hX hname hQ
  obtain ⟨G, hGe⟩ : ∃ z, z = G0 := ⟨_, rfl⟩
  have hM : zFx G xq x t dq tp bg bl tpd ∧ zTw g G q t B N tk cp sh fc gn ∧ zFrK [(q, 0), (q, 1), (q, 2)] G0 G := by rw [hGe]; exact ⟨hx, ht, zFrK.rf⟩
  show ZW g X 0 0 G0 0 [(0, .ref x), (1, .int which), (2, .int house)] []
  rw [← hGe]
  refine z_iload_n hX dX0_worth_0 1 rfl (i := 1) rfl 1 rfl ?_
  refine z_callSp hX cwX0_197 (w := .int (if zin which 4 then 1 else 0 : Int32)) (met_X0_isState hG which) dX0_worth_1 4 rfl rfl rfl (Nat.le_of_ble_eq_true rfl) (by decide) ⟨Nat.zero_le _, Nat.zero_le _⟩ ?_
  have J2 : ∀ G : zHG, zFx G xq x t dq tp bg bl tpd ∧ zTw g G q t B N tk cp sh fc (if zin which 4 then if zin house H then x1_state_gn N tk cp sh fc gn A H K (nI which.toNatClampNeg) else gn else gn) ∧ zFrK [(q, 0), (q, 1), (q, 2)] G0 G → ZW g X 5 16 G 39 [(0, .ref x)] [.int (if zin which 4 then (if zin house H then x1_worthW N tk sh (x1_state_res_sold N tk cp sh fc A H K (nI which.toNatClampNeg)) (x1_state_res_fallen N tk cp sh fc A H K (nI which.toNatClampNeg)) A H K house.toNatClampNeg else (-1000000) : Int32) else (-1000000) : Int32)] := by
    intro G hM
    exact z_iret hX hQ (by omega) (by omega) rfl dX0_worth_39 ⟨rfl, hM⟩
  refine z_if_eqP hX (zin which 4) dX0_worth_4 7 rfl (tgt := 37) (by decide) (fun c1 => ?_) (fun c1 => ?_)
  ·
    refine z_ldc hX q948 dX0_worth_37 39 rfl ?_
    refine z_sub [0] rfl ?_
    refine z_widen (u' := 5) (v' := 16) (by omega) (by omega) ?_
    exact z_eqL rfl (by first | (simp only [if_neg c1] <;> rfl; done) | grind) (J2 _ (by first | (simpa only [if_neg c1] using hM) | ((try simp only [if_neg c1]); exact hM)))
  ·
    have e_which := zin_eq c1
    have l_which := zin_lt c1
    refine z_eqL (L' := [(0, .ref x), (1, .int (nI which.toNatClampNeg)), (2, .int house)]) (st' := []) (by rw [← e_which]) (by first | rfl | rw [← e_which]) ?_
    refine z_aload_n hX dX0_worth_7 8 rfl (i := 0) rfl 0 rfl ?_
    refine z_getf hX fX0_10 hM.1.o dX0_worth_8 11 rfl (x := .ref t) rfl ?_
    refine z_iload_n hX dX0_worth_11 12 rfl (i := 2) rfl 2 rfl ?_
    obtain ⟨opr, os1, os2, of1, of2, ob1, ob2, hT9, h19, h29⟩ := id hM.2.1
    refine z_callVp hX cwX0_72 (w := .int (if zin house H then 1 else 0 : Int32)) (met_X1_isHouse hG hT9 hN house) hT9.o rfl rfl dX0_worth_12 15 rfl rfl rfl (Nat.le_of_ble_eq_true rfl) (by decide) ⟨Nat.zero_le _, Nat.zero_le _⟩ ?_
    refine z_if_eqP hX (zin house H) dX0_worth_15 18 rfl (tgt := 37) (by decide) (fun c3 => ?_) (fun c3 => ?_)
    ·
      refine z_ldc hX q948 dX0_worth_37 39 rfl ?_
      refine z_sub [0] rfl ?_
      refine z_widen (u' := 5) (v' := 16) (by omega) (by omega) ?_
      exact z_eqL rfl (by first | (simp only [if_pos c1, if_neg c3] <;> rfl; done) | grind) (J2 _ (by first | (simpa only [if_pos c1, if_neg c3] using hM) | ((try simp only [if_pos c1]); (try simp only [if_neg c3]); exact hM)))
    ·
      have e_house := zin_eq c3
      have l_house := zin_lt c3
      refine z_eqL (L' := [(0, .ref x), (1, .int (nI which.toNatClampNeg)), (2, .int (nI house.toNatClampNeg))]) (st' := []) (by rw [← e_house]) (by first | rfl | rw [← e_house]) ?_
      refine z_aload_n hX dX0_worth_18 19 rfl (i := 0) rfl 0 rfl ?_
      refine z_getf hX fX0_10 hM.1.o dX0_worth_19 22 rfl (x := .ref t) rfl ?_
      refine z_aload_n hX dX0_worth_22 23 rfl (i := 0) rfl 0 rfl ?_
      refine z_getf hX fX0_10 hM.1.o dX0_worth_23 26 rfl (x := .ref t) rfl ?_
      refine z_iload_n hX dX0_worth_26 27 rfl (i := 1) rfl 1 rfl ?_
      obtain ⟨fs9, ho9⟩ := hM.2.1.o
      refine z_callV hX cwX0_202 (met_X1_state hG hM.2.1 hN (nI which.toNatClampNeg)) ho9 rfl rfl dX0_worth_27 30 rfl rfl rfl (Nat.le_of_ble_eq_true rfl) (by decide) ⟨by omega, by omega⟩ (fun r G hP => ?_)
      obtain ⟨ns27, s27, bs27, hzs27, rfl, hP⟩ := hP
      have ne_x_s27 : (xq, 0) ≠ (ns27, 0) := hzs27.neT hM.1.o
      obtain ⟨fs9, ho9⟩ := hM.2.1.o
      have ne_t_s27_0 : (q, 0) ≠ (ns27, 0) := hzs27.neT ho9
      have ne_t_s27_1 : (q, 1) ≠ (ns27, 0) := hzs27.neT ho9
      have ne_t_s27_2 : (q, 2) ≠ (ns27, 0) := hzs27.neT ho9
      have nq_t_s27 : q ≠ ns27 := hzs27 _ _ _ ho9
      have fn_s27 : zFresh G0 ns27 := hzs27.of' hM.2.2 (zfm1 nq_t_s27 (zfm1 nq_t_s27 (zfm1 nq_t_s27 zfm0)))
      have hM : zFx G xq x t dq tp bg bl tpd ∧ zTw g G q t B N tk cp sh fc (x1_state_gn N tk cp sh fc gn A H K (nI which.toNatClampNeg)) ∧ zSt g G (ns27, 0) s27 bs27 (x1_state_res_sold N tk cp sh fc A H K (nI which.toNatClampNeg)) (x1_state_res_fallen N tk cp sh fc A H K (nI which.toNatClampNeg)) ∧ zFrK [(q, 0), (q, 1), (q, 2)] G0 G := ⟨hM.1.kp (hP.2.2.kp (zni1 ne_x_t_00 (zni1 ne_x_t_01 (zni1 ne_x_t_02 zni0)))), hP.1, hP.2.1, hM.2.2.stepL hP.2.2 (zml1 (Or.inl List.mem_cons_self) (zml1 (Or.inl (List.mem_cons_of_mem _ List.mem_cons_self)) (zml1 (Or.inl (List.mem_cons_of_mem _ (List.mem_cons_of_mem _ List.mem_cons_self))) zml0)))⟩
      show ZW g X 5 16 G 30 [(0, .ref x), (1, .int (nI which.toNatClampNeg)), (2, .int (nI house.toNatClampNeg))] [.ref s27, .ref t]
      refine z_iload_n hX dX0_worth_30 31 rfl (i := 2) rfl 2 rfl ?_
      obtain ⟨fs9, ho9⟩ := hM.2.1.o
      refine z_callV hX cwX0_222 (met_x1_worthW hG hM.2.1 hM.2.2.1 hN ne_t_s27_0 ne_t_s27_1 ne_t_s27_2 house.toNatClampNeg (by omega)) ho9 rfl rfl dX0_worth_31 34 rfl rfl rfl (Nat.le_of_ble_eq_true rfl) (by decide) ⟨by omega, by omega⟩ (fun r G hP => ?_)
      obtain ⟨rfl, hP⟩ := hP
      have hM : zFx G xq x t dq tp bg bl tpd ∧ zTw g G q t B N tk cp sh fc (x1_state_gn N tk cp sh fc gn A H K (nI which.toNatClampNeg)) ∧ zSt g G (ns27, 0) s27 bs27 (x1_state_res_sold N tk cp sh fc A H K (nI which.toNatClampNeg)) (x1_state_res_fallen N tk cp sh fc A H K (nI which.toNatClampNeg)) ∧ zFrK [(q, 0), (q, 1), (q, 2)] G0 G := ⟨hM.1.kp (hP.2.2.kp (zni1 ne_x_t_00 (zni1 ne_x_t_01 (zni1 ne_x_t_02 zni0)))), hP.1, hP.2.1, hM.2.2.2.stepL hP.2.2 (zml1 (Or.inl List.mem_cons_self) (zml1 (Or.inl (List.mem_cons_of_mem _ List.mem_cons_self)) (zml1 (Or.inl (List.mem_cons_of_mem _ (List.mem_cons_of_mem _ List.mem_cons_self))) zml0)))⟩
      show ZW g X 5 16 G 34 [(0, .ref x), (1, .int (nI which.toNatClampNeg)), (2, .int (nI house.toNatClampNeg))] [.int (x1_worthW N tk sh (x1_state_res_sold N tk cp sh fc A H K (nI which.toNatClampNeg)) (x1_state_res_fallen N tk cp sh fc A H K (nI which.toNatClampNeg)) A H K house.toNatClampNeg)]
      refine z_goto hX dX0_worth_34 (tgt := 39) (by decide) ?_
      have hM : zFx G xq x t dq tp bg bl tpd ∧ zTw g G q t B N tk cp sh fc (x1_state_gn N tk cp sh fc gn A H K (nI which.toNatClampNeg)) ∧ zFrK [(q, 0), (q, 1), (q, 2)] G0 G := ⟨hM.1, hM.2.1, hM.2.2.2⟩
      refine z_sub [0] rfl ?_
      exact z_eqL rfl (by first | (simp only [if_pos c1, if_pos c3] <;> rfl; done) | grind) (J2 _ (by first | (simpa only [if_pos c1, if_pos c3] using hM) | ((try simp only [if_pos c1]); (try simp only [if_pos c3]); exact hM)))
noncomputable def x0_round (N : Nat → Int32) (tk : Nat → Int32) (cp : Nat → Int32) (sh : Nat → Int32) (fc : Int32) (A : Nat) (H : Nat) (K : Nat → Nat) (k : Int32) (what : Int32) : Int32 := (if zin k 2001 then (if zin what 8 then x1_tells N tk sh (x1_behind_res_sold N tk cp sh fc A H K k.toNatClampNeg) (x1_behind_res_fallen N tk cp sh fc A H K k.toNatClampNeg) A K (nI what.toNatClampNeg) else (-1) : Int32) else (-1) : Int32)
noncomputable def x0_round_gn (N : Nat → Int32) (tk : Nat → Int32) (cp : Nat → Int32) (sh : Nat → Int32) (fc : Int32) (gn : Int32) (A : Nat) (H : Nat) (K : Nat → Nat) (k : Int32) (what : Int32) : Int32 := if zin k 2001 then if zin what 8 then x1_behind_gn N tk cp sh fc A H K k.toNatClampNeg else gn else gn
set_option maxHeartbeats 4000000 in
theorem met_X0_round {g : Zg} (hG : zG g) {G0 : zHG} {xq x dq tp : Nat} {bg : Value} {bl tpd : Int32} {q t : Nat} {B : Nat → Nat → Nat} {N tk cp sh : Nat → Int32} {fc gn : Int32} (hx : zFx G0 xq x t dq tp bg bl tpd) (ht : zTw g G0 q t B N tk cp sh fc gn) {A H : Nat} {K : Nat → Nat} (hN : zWf N A H K) (ne_x_t_00 : (xq, 0) ≠ (q, 0)) (ne_x_t_01 : (xq, 0) ≠ (q, 1)) (ne_x_t_02 : (xq, 0) ≠ (q, 2)) (k : Int32) (what : Int32)  : ZM g yX0_round cX0_round 3 (some FieldType.int) 10 5 16 [.ref x, .int k, .int what] G0 (fun r G' => r = some (.int (x0_round N tk cp sh fc A H K k what)) ∧ (zFx G' xq x t dq tp bg bl tpd ∧ zTw g G' q t B N tk cp sh fc (x0_round_gn N tk cp sh fc gn A H K k what) ∧ zFrK [(q, 0), (q, 1), (q, 2)] G0 G')) := by
  unfold x0_round x0_round_gn
  have hN2 := hN.2.1
  have hN4 := hN.2.2.2.1
  refine ZM_mk hG (by decide) (Nat.le_of_ble_eq_true rfl) ?_
  intro X hX hname hQ
  obtain ⟨G, hGe⟩ : ∃ z, z = G0 := ⟨_, rfl⟩
  have hM : zFx G xq x t dq tp bg bl tpd ∧ zTw g G q t B N tk cp sh fc gn ∧ zFrK [(q, 0), (q, 1), (q, 2)] G0 G := by rw [hGe]; exact ⟨hx, ht, zFrK.rf⟩
  show ZW g X 0 0 G0 0 [(0, .ref x), (1, .int k), (2, .int what)] []
  rw [← hGe]
  refine z_iload_n hX dX0_round_0 1 rfl (i := 1) rfl 1 rfl ?_
  refine z_i2l hX dX0_round_1 2 rfl (w := (k).toInt64) (by first | rfl | decide) ?_
  refine z_lconst hX dX0_round_2 3 rfl (w := 0) rfl ?_
  refine z_ldc2 hX q959 dX0_round_3 6 rfl ?_
  refine z_eqL (L' := [(0, .ref x), (1, .int k), (2, .int what)]) (st' := [.long ((2000 : Int32).toInt64), .long ((0 : Int32).toInt64), .long ((k).toInt64)]) rfl (by rfl) ?_
  refine z_callSp hX cwX0_45 (w := .int (if zin k 2001 then 1 else 0 : Int32)) (met_X0_inz hG k 2000 2001 (by decide)) dX0_round_6 9 rfl rfl rfl (Nat.le_of_ble_eq_true rfl) (by decide) ⟨Nat.zero_le _, Nat.zero_le _⟩ ?_
  have J2 : ∀ G : zHG, zFx G xq x t dq tp bg bl tpd ∧ zTw g G q t B N tk cp sh fc (if zin k 2001 then if zin what 8 then x1_behind_gn N tk cp sh fc A H K k.toNatClampNeg else gn else gn) ∧ zFrK [(q, 0), (q, 1), (q, 2)] G0 G → ZW g X 5 16 G 44 [(0, .ref x)] [.int (if zin k 2001 then (if zin what 8 then x1_tells N tk sh (x1_behind_res_sold N tk cp sh fc A H K k.toNatClampNeg) (x1_behind_res_fallen N tk cp sh fc A H K k.toNatClampNeg) A K (nI what.toNatClampNeg) else (-1) : Int32) else (-1) : Int32)] := by
    intro G hM
    exact z_iret hX hQ (by omega) (by omega) rfl dX0_round_44 ⟨rfl, hM⟩
  refine z_if_eqP hX (zin k 2001) dX0_round_9 12 rfl (tgt := 43) (by decide) (fun c1 => ?_) (fun c1 => ?_)
  ·
    refine z_iconst hX dX0_round_43 44 rfl zki_m1 ?_
    refine z_sub [0] rfl ?_
    refine z_widen (u' := 5) (v' := 16) (by omega) (by omega) ?_
    exact z_eqL rfl (by first | (simp only [if_neg c1] <;> rfl; done) | grind) (J2 _ (by first | (simpa only [if_neg c1] using hM) | ((try simp only [if_neg c1]); exact hM)))
  ·
    have e_k := zin_eq c1
    have l_k := zin_lt c1
    refine z_eqL (L' := [(0, .ref x), (1, .int (nI k.toNatClampNeg)), (2, .int what)]) (st' := []) (by rw [← e_k]) (by first | rfl | rw [← e_k]) ?_
    refine z_iload_n hX dX0_round_12 13 rfl (i := 2) rfl 2 rfl ?_
    refine z_i2l hX dX0_round_13 14 rfl (w := (what).toInt64) (by first | rfl | decide) ?_
    refine z_lconst hX dX0_round_14 15 rfl (w := 0) rfl ?_
    refine z_ldc2 hX q899 dX0_round_15 18 rfl ?_
    refine z_eqL (L' := [(0, .ref x), (1, .int (nI k.toNatClampNeg)), (2, .int what)]) (st' := [.long ((7 : Int32).toInt64), .long ((0 : Int32).toInt64), .long ((what).toInt64)]) rfl (by rfl) ?_
    refine z_callSp hX cwX0_45 (w := .int (if zin what 8 then 1 else 0 : Int32)) (met_X0_inz hG what 7 8 (by decide)) dX0_round_18 21 rfl rfl rfl (Nat.le_of_ble_eq_true rfl) (by decide) ⟨Nat.zero_le _, Nat.zero_le _⟩ ?_
    refine z_if_eqP hX (zin what 8) dX0_round_21 24 rfl (tgt := 43) (by decide) (fun c3 => ?_) (fun c3 => ?_)
    ·
      refine z_iconst hX dX0_round_43 44 rfl zki_m1 ?_
      refine z_sub [0] rfl ?_
      refine z_widen (u' := 5) (v' := 16) (by omega) (by omega) ?_
      exact z_eqL rfl (by first | (simp only [if_pos c1, if_neg c3] <;> rfl; done) | grind) (J2 _ (by first | (simpa only [if_pos c1, if_neg c3] using hM) | ((try simp only [if_pos c1]); (try simp only [if_neg c3]); exact hM)))
    ·
      have e_what := zin_eq c3
      have l_what := zin_lt c3
      refine z_eqL (L' := [(0, .ref x), (1, .int (nI k.toNatClampNeg)), (2, .int (nI what.toNatClampNeg))]) (st' := []) (by rw [← e_what]) (by first | rfl | rw [← e_what]) ?_
      refine z_aload_n hX dX0_round_24 25 rfl (i := 0) rfl 0 rfl ?_
      refine z_getf hX fX0_10 hM.1.o dX0_round_25 28 rfl (x := .ref t) rfl ?_
      refine z_aload_n hX dX0_round_28 29 rfl (i := 0) rfl 0 rfl ?_
      refine z_getf hX fX0_10 hM.1.o dX0_round_29 32 rfl (x := .ref t) rfl ?_
      refine z_iload_n hX dX0_round_32 33 rfl (i := 1) rfl 1 rfl ?_
      obtain ⟨fs9, ho9⟩ := hM.2.1.o
      refine z_callV hX cwX0_235 (met_X1_behind hG hM.2.1 hN k.toNatClampNeg (by omega)) ho9 rfl rfl dX0_round_33 36 rfl rfl rfl (Nat.le_of_ble_eq_true rfl) (by decide) ⟨by omega, by omega⟩ (fun r G hP => ?_)
      obtain ⟨ns33, s33, bs33, hzs33, rfl, hP⟩ := hP
      have ne_x_s33 : (xq, 0) ≠ (ns33, 0) := hzs33.neT hM.1.o
      obtain ⟨fs9, ho9⟩ := hM.2.1.o
      have ne_t_s33_0 : (q, 0) ≠ (ns33, 0) := hzs33.neT ho9
      have ne_t_s33_1 : (q, 1) ≠ (ns33, 0) := hzs33.neT ho9
      have ne_t_s33_2 : (q, 2) ≠ (ns33, 0) := hzs33.neT ho9
      have nq_t_s33 : q ≠ ns33 := hzs33 _ _ _ ho9
      have fn_s33 : zFresh G0 ns33 := hzs33.of' hM.2.2 (zfm1 nq_t_s33 (zfm1 nq_t_s33 (zfm1 nq_t_s33 zfm0)))
      have hM : zFx G xq x t dq tp bg bl tpd ∧ zTw g G q t B N tk cp sh fc (x1_behind_gn N tk cp sh fc A H K k.toNatClampNeg) ∧ zSt g G (ns33, 0) s33 bs33 (x1_behind_res_sold N tk cp sh fc A H K k.toNatClampNeg) (x1_behind_res_fallen N tk cp sh fc A H K k.toNatClampNeg) ∧ zFrK [(q, 0), (q, 1), (q, 2)] G0 G := ⟨hM.1.kp (hP.2.2.kp (zni1 ne_x_t_00 (zni1 ne_x_t_01 (zni1 ne_x_t_02 zni0)))), hP.1, hP.2.1, hM.2.2.stepL hP.2.2 (zml1 (Or.inl List.mem_cons_self) (zml1 (Or.inl (List.mem_cons_of_mem _ List.mem_cons_self)) (zml1 (Or.inl (List.mem_cons_of_mem _ (List.mem_cons_of_mem _ List.mem_cons_self))) zml0)))⟩
      show ZW g X 5 16 G 36 [(0, .ref x), (1, .int (nI k.toNatClampNeg)), (2, .int (nI what.toNatClampNeg))] [.ref s33, .ref t]
      refine z_iload_n hX dX0_round_36 37 rfl (i := 2) rfl 2 rfl ?_
      obtain ⟨opr, os1, os2, of1, of2, ob1, ob2, hT9, h19, h29⟩ := id hM.2.1
      refine z_callVp hX cwX0_206 (w := .int (x1_tells N tk sh (x1_behind_res_sold N tk cp sh fc A H K k.toNatClampNeg) (x1_behind_res_fallen N tk cp sh fc A H K k.toNatClampNeg) A K (nI what.toNatClampNeg))) (met_X1_tells hG hT9 hM.2.2.1 hN (nI what.toNatClampNeg)) hT9.o rfl rfl dX0_round_37 40 rfl rfl rfl (Nat.le_of_ble_eq_true rfl) (by decide) ⟨by omega, by omega⟩ ?_
      refine z_goto hX dX0_round_40 (tgt := 44) (by decide) ?_
      have hM : zFx G xq x t dq tp bg bl tpd ∧ zTw g G q t B N tk cp sh fc (x1_behind_gn N tk cp sh fc A H K k.toNatClampNeg) ∧ zFrK [(q, 0), (q, 1), (q, 2)] G0 G := ⟨hM.1, hM.2.1, hM.2.2.2⟩
      refine z_sub [0] rfl ?_
      exact z_eqL rfl (by first | (simp only [if_pos c1, if_pos c3] <;> rfl; done) | grind) (J2 _ (by first | (simpa only [if_pos c1, if_pos c3] using hM) | ((try simp only [if_pos c1]); (try simp only [if_pos c3]); exact hM)))
noncomputable def x0_worthIn (N : Nat → Int32) (tk : Nat → Int32) (cp : Nat → Int32) (sh : Nat → Int32) (fc : Int32) (A : Nat) (H : Nat) (K : Nat → Nat) (k : Int32) (house : Int32) : Int32 := (if zin k 2001 then (if zin house H then x1_worthW N tk sh (x1_behind_res_sold N tk cp sh fc A H K k.toNatClampNeg) (x1_behind_res_fallen N tk cp sh fc A H K k.toNatClampNeg) A H K house.toNatClampNeg else (-1000000) : Int32) else (-1000000) : Int32)
noncomputable def x0_worthIn_gn (N : Nat → Int32) (tk : Nat → Int32) (cp : Nat → Int32) (sh : Nat → Int32) (fc : Int32) (gn : Int32) (A : Nat) (H : Nat) (K : Nat → Nat) (k : Int32) (house : Int32) : Int32 := if zin k 2001 then if zin house H then x1_behind_gn N tk cp sh fc A H K k.toNatClampNeg else gn else gn
set_option maxHeartbeats 4000000 in
theorem met_X0_worthIn {g : Zg} (hG : zG g) {G0 : zHG} {xq x dq tp : Nat} {bg : Value} {bl tpd : Int32} {q t : Nat} {B : Nat → Nat → Nat} {N tk cp sh : Nat → Int32} {fc gn : Int32} (hx : zFx G0 xq x t dq tp bg bl tpd) (ht : zTw g G0 q t B N tk cp sh fc gn) {A H : Nat} {K : Nat → Nat} (hN : zWf N A H K) (ne_x_t_00 : (xq, 0) ≠ (q, 0)) (ne_x_t_01 : (xq, 0) ≠ (q, 1)) (ne_x_t_02 : (xq, 0) ≠ (q, 2)) (k : Int32) (house : Int32)  : ZM g yX0_worthIn cX0_worthIn 3 (some FieldType.int) 10 5 16 [.ref x, .int k, .int house] G0 (fun r G' => r = some (.int (x0_worthIn N tk cp sh fc A H K k house)) ∧ (zFx G' xq x t dq tp bg bl tpd ∧ zTw g G' q t B N tk cp sh fc (x0_worthIn_gn N tk cp sh fc gn A H K k house) ∧ zFrK [(q, 0), (q, 1), (q, 2)] G0 G')) := by
  unfold x0_worthIn x0_worthIn_gn
  have hN2 := hN.2.1
  have hN4 := hN.2.2.2.1
  refine ZM_mk hG (by decide) (Nat.le_of_ble_eq_true rfl) ?_
  intro X hX hname hQ
  obtain ⟨G, hGe⟩ : ∃ z, z = G0 := ⟨_, rfl⟩
  have hM : zFx G xq x t dq tp bg bl tpd ∧ zTw g G q t B N tk cp sh fc gn ∧ zFrK [(q, 0), (q, 1), (q, 2)] G0 G := by rw [hGe]; exact ⟨hx, ht, zFrK.rf⟩
  show ZW g X 0 0 G0 0 [(0, .ref x), (1, .int k), (2, .int house)] []
  rw [← hGe]
  refine z_iload_n hX dX0_worthIn_0 1 rfl (i := 1) rfl 1 rfl ?_
  refine z_i2l hX dX0_worthIn_1 2 rfl (w := (k).toInt64) (by first | rfl | decide) ?_
  refine z_lconst hX dX0_worthIn_2 3 rfl (w := 0) rfl ?_
  refine z_ldc2 hX q959 dX0_worthIn_3 6 rfl ?_
  refine z_eqL (L' := [(0, .ref x), (1, .int k), (2, .int house)]) (st' := [.long ((2000 : Int32).toInt64), .long ((0 : Int32).toInt64), .long ((k).toInt64)]) rfl (by rfl) ?_
  refine z_callSp hX cwX0_45 (w := .int (if zin k 2001 then 1 else 0 : Int32)) (met_X0_inz hG k 2000 2001 (by decide)) dX0_worthIn_6 9 rfl rfl rfl (Nat.le_of_ble_eq_true rfl) (by decide) ⟨Nat.zero_le _, Nat.zero_le _⟩ ?_
  have J2 : ∀ G : zHG, zFx G xq x t dq tp bg bl tpd ∧ zTw g G q t B N tk cp sh fc (if zin k 2001 then if zin house H then x1_behind_gn N tk cp sh fc A H K k.toNatClampNeg else gn else gn) ∧ zFrK [(q, 0), (q, 1), (q, 2)] G0 G → ZW g X 5 16 G 44 [(0, .ref x)] [.int (if zin k 2001 then (if zin house H then x1_worthW N tk sh (x1_behind_res_sold N tk cp sh fc A H K k.toNatClampNeg) (x1_behind_res_fallen N tk cp sh fc A H K k.toNatClampNeg) A H K house.toNatClampNeg else (-1000000) : Int32) else (-1000000) : Int32)] := by
    intro G hM
    exact z_iret hX hQ (by omega) (by omega) rfl dX0_worthIn_44 ⟨rfl, hM⟩
  refine z_if_eqP hX (zin k 2001) dX0_worthIn_9 12 rfl (tgt := 42) (by decide) (fun c1 => ?_) (fun c1 => ?_)
  ·
    refine z_ldc hX q948 dX0_worthIn_42 44 rfl ?_
    refine z_sub [0] rfl ?_
    refine z_widen (u' := 5) (v' := 16) (by omega) (by omega) ?_
    exact z_eqL rfl (by first | (simp only [if_neg c1] <;> rfl; done) | grind) (J2 _ (by first | (simpa only [if_neg c1] using hM) | ((try simp only [if_neg c1]); exact hM)))
  ·
    have e_k := zin_eq c1
    have l_k := zin_lt c1
    refine z_eqL (L' := [(0, .ref x), (1, .int (nI k.toNatClampNeg)), (2, .int house)]) (st' := []) (by rw [← e_k]) (by first | rfl | rw [← e_k]) ?_
    refine z_aload_n hX dX0_worthIn_12 13 rfl (i := 0) rfl 0 rfl ?_
    refine z_getf hX fX0_10 hM.1.o dX0_worthIn_13 16 rfl (x := .ref t) rfl ?_
    refine z_iload_n hX dX0_worthIn_16 17 rfl (i := 2) rfl 2 rfl ?_
    obtain ⟨opr, os1, os2, of1, of2, ob1, ob2, hT9, h19, h29⟩ := id hM.2.1
    refine z_callVp hX cwX0_72 (w := .int (if zin house H then 1 else 0 : Int32)) (met_X1_isHouse hG hT9 hN house) hT9.o rfl rfl dX0_worthIn_17 20 rfl rfl rfl (Nat.le_of_ble_eq_true rfl) (by decide) ⟨Nat.zero_le _, Nat.zero_le _⟩ ?_
    refine z_if_eqP hX (zin house H) dX0_worthIn_20 23 rfl (tgt := 42) (by decide) (fun c3 => ?_) (fun c3 => ?_)
    ·
      refine z_ldc hX q948 dX0_worthIn_42 44 rfl ?_
      refine z_sub [0] rfl ?_
      refine z_widen (u' := 5) (v' := 16) (by omega) (by omega) ?_
      exact z_eqL rfl (by first | (simp only [if_pos c1, if_neg c3] <;> rfl; done) | grind) (J2 _ (by first | (simpa only [if_pos c1, if_neg c3] using hM) | ((try simp only [if_pos c1]); (try simp only [if_neg c3]); exact hM)))
    ·
      have e_house := zin_eq c3
      have l_house := zin_lt c3
      refine z_eqL (L' := [(0, .ref x), (1, .int (nI k.toNatClampNeg)), (2, .int (nI house.toNatClampNeg))]) (st' := []) (by rw [← e_house]) (by first | rfl | rw [← e_house]) ?_
      refine z_aload_n hX dX0_worthIn_23 24 rfl (i := 0) rfl 0 rfl ?_
      refine z_getf hX fX0_10 hM.1.o dX0_worthIn_24 27 rfl (x := .ref t) rfl ?_
      refine z_aload_n hX dX0_worthIn_27 28 rfl (i := 0) rfl 0 rfl ?_
      refine z_getf hX fX0_10 hM.1.o dX0_worthIn_28 31 rfl (x := .ref t) rfl ?_
      refine z_iload_n hX dX0_worthIn_31 32 rfl (i := 1) rfl 1 rfl ?_
      obtain ⟨fs9, ho9⟩ := hM.2.1.o
      refine z_callV hX cwX0_235 (met_X1_behind hG hM.2.1 hN k.toNatClampNeg (by omega)) ho9 rfl rfl dX0_worthIn_32 35 rfl rfl rfl (Nat.le_of_ble_eq_true rfl) (by decide) ⟨by omega, by omega⟩ (fun r G hP => ?_)
      obtain ⟨ns32, s32, bs32, hzs32, rfl, hP⟩ := hP
      have ne_x_s32 : (xq, 0) ≠ (ns32, 0) := hzs32.neT hM.1.o
      obtain ⟨fs9, ho9⟩ := hM.2.1.o
      have ne_t_s32_0 : (q, 0) ≠ (ns32, 0) := hzs32.neT ho9
      have ne_t_s32_1 : (q, 1) ≠ (ns32, 0) := hzs32.neT ho9
      have ne_t_s32_2 : (q, 2) ≠ (ns32, 0) := hzs32.neT ho9
      have nq_t_s32 : q ≠ ns32 := hzs32 _ _ _ ho9
      have fn_s32 : zFresh G0 ns32 := hzs32.of' hM.2.2 (zfm1 nq_t_s32 (zfm1 nq_t_s32 (zfm1 nq_t_s32 zfm0)))
      have hM : zFx G xq x t dq tp bg bl tpd ∧ zTw g G q t B N tk cp sh fc (x1_behind_gn N tk cp sh fc A H K k.toNatClampNeg) ∧ zSt g G (ns32, 0) s32 bs32 (x1_behind_res_sold N tk cp sh fc A H K k.toNatClampNeg) (x1_behind_res_fallen N tk cp sh fc A H K k.toNatClampNeg) ∧ zFrK [(q, 0), (q, 1), (q, 2)] G0 G := ⟨hM.1.kp (hP.2.2.kp (zni1 ne_x_t_00 (zni1 ne_x_t_01 (zni1 ne_x_t_02 zni0)))), hP.1, hP.2.1, hM.2.2.stepL hP.2.2 (zml1 (Or.inl List.mem_cons_self) (zml1 (Or.inl (List.mem_cons_of_mem _ List.mem_cons_self)) (zml1 (Or.inl (List.mem_cons_of_mem _ (List.mem_cons_of_mem _ List.mem_cons_self))) zml0)))⟩
      show ZW g X 5 16 G 35 [(0, .ref x), (1, .int (nI k.toNatClampNeg)), (2, .int (nI house.toNatClampNeg))] [.ref s32, .ref t]
      refine z_iload_n hX dX0_worthIn_35 36 rfl (i := 2) rfl 2 rfl ?_
      obtain ⟨fs9, ho9⟩ := hM.2.1.o
      refine z_callV hX cwX0_222 (met_x1_worthW hG hM.2.1 hM.2.2.1 hN ne_t_s32_0 ne_t_s32_1 ne_t_s32_2 house.toNatClampNeg (by omega)) ho9 rfl rfl dX0_worthIn_36 39 rfl rfl rfl (Nat.le_of_ble_eq_true rfl) (by decide) ⟨by omega, by omega⟩ (fun r G hP => ?_)
      obtain ⟨rfl, hP⟩ := hP
      have hM : zFx G xq x t dq tp bg bl tpd ∧ zTw g G q t B N tk cp sh fc (x1_behind_gn N tk cp sh fc A H K k.toNatClampNeg) ∧ zSt g G (ns32, 0) s32 bs32 (x1_behind_res_sold N tk cp sh fc A H K k.toNatClampNeg) (x1_behind_res_fallen N tk cp sh fc A H K k.toNatClampNeg) ∧ zFrK [(q, 0), (q, 1), (q, 2)] G0 G := ⟨hM.1.kp (hP.2.2.kp (zni1 ne_x_t_00 (zni1 ne_x_t_01 (zni1 ne_x_t_02 zni0)))), hP.1, hP.2.1, hM.2.2.2.stepL hP.2.2 (zml1 (Or.inl List.mem_cons_self) (zml1 (Or.inl (List.mem_cons_of_mem _ List.mem_cons_self)) (zml1 (Or.inl (List.mem_cons_of_mem _ (List.mem_cons_of_mem _ List.mem_cons_self))) zml0)))⟩
      show ZW g X 5 16 G 39 [(0, .ref x), (1, .int (nI k.toNatClampNeg)), (2, .int (nI house.toNatClampNeg))] [.int (x1_worthW N tk sh (x1_behind_res_sold N tk cp sh fc A H K k.toNatClampNeg) (x1_behind_res_fallen N tk cp sh fc A H K k.toNatClampNeg) A H K house.toNatClampNeg)]
      refine z_goto hX dX0_worthIn_39 (tgt := 44) (by decide) ?_
      have hM : zFx G xq x t dq tp bg bl tpd ∧ zTw g G q t B N tk cp sh fc (x1_behind_gn N tk cp sh fc A H K k.toNatClampNeg) ∧ zFrK [(q, 0), (q, 1), (q, 2)] G0 G := ⟨hM.1, hM.2.1, hM.2.2.2⟩
      refine z_sub [0] rfl ?_
      exact z_eqL rfl (by first | (simp only [if_pos c1, if_pos c3] <;> rfl; done) | grind) (J2 _ (by first | (simpa only [if_pos c1, if_pos c3] using hM) | ((try simp only [if_pos c1]); (try simp only [if_pos c3]); exact hM)))
noncomputable def x0_drop (N : Nat → Int32) (tk : Nat → Int32) (cp : Nat → Int32) (sh : Nat → Int32) (fc : Int32) (A : Nat) (H : Nat) (K : Nat → Nat) (which : Int32) : Int32 := (if zin which 4 then x1_drop N tk sh (x1_state_res_sold N tk cp sh fc A H K (nI which.toNatClampNeg)) A K else (-1) : Int32)
noncomputable def x0_drop_gn (N : Nat → Int32) (tk : Nat → Int32) (cp : Nat → Int32) (sh : Nat → Int32) (fc : Int32) (gn : Int32) (A : Nat) (H : Nat) (K : Nat → Nat) (which : Int32) : Int32 := if zin which 4 then x1_state_gn N tk cp sh fc gn A H K (nI which.toNatClampNeg) else gn
set_option maxHeartbeats 4000000 in
theorem met_X0_drop {g : Zg} (hG : zG g) {G0 : zHG} {xq x dq tp : Nat} {bg : Value} {bl tpd : Int32} {q t : Nat} {B : Nat → Nat → Nat} {N tk cp sh : Nat → Int32} {fc gn : Int32} (hx : zFx G0 xq x t dq tp bg bl tpd) (ht : zTw g G0 q t B N tk cp sh fc gn) {A H : Nat} {K : Nat → Nat} (hN : zWf N A H K) (ne_x_t_00 : (xq, 0) ≠ (q, 0)) (ne_x_t_01 : (xq, 0) ≠ (q, 1)) (ne_x_t_02 : (xq, 0) ≠ (q, 2)) (which : Int32) (af0 : (zin which 4) → vf_n32 (FP.fdiv (x1_index_l16 N tk sh (x1_state_res_sold N tk cp sh fc A H K (nI which.toNatClampNeg)) K FP.fconst0 A) (FP.i2f (x1_heldAll N A)))) (af1 : (zin which 4) → ∀ qqj2 : Nat, qqj2 < A → ¬ ((x1_calmPrice N sh K qqj2) = 0) → vf_n32 (FP.fdiv (FP.i2f (x1_price N tk sh (x1_state_res_sold N tk cp sh fc A H K (nI which.toNatClampNeg)) K qqj2)) (FP.i2f (x1_calmPrice N sh K qqj2)))) (af2 : (zin which 4) → ∀ qqj2 : Nat, qqj2 < A → vf_n32 (FP.fmul (x1_ratio N tk sh (x1_state_res_sold N tk cp sh fc A H K (nI which.toNatClampNeg)) K qqj2) (FP.i2f (x1_held N qqj2)))) (af3 : (zin which 4) → ∀ qqj2 : Nat, qqj2 < A → vf_n32 (FP.fadd (x1_index_l16 N tk sh (x1_state_res_sold N tk cp sh fc A H K (nI which.toNatClampNeg)) K FP.fconst0 qqj2) (FP.fmul (x1_ratio N tk sh (x1_state_res_sold N tk cp sh fc A H K (nI which.toNatClampNeg)) K qqj2) (FP.i2f (x1_held N qqj2))))) (af4 : (zin which 4) → vf_n32 (FP.fsub FP.fconst1 (x1_index N tk sh (x1_state_res_sold N tk cp sh fc A H K (nI which.toNatClampNeg)) A K))) (af5 : (zin which 4) → vf_n32 (FP.fmul (FP.fsub FP.fconst1 (x1_index N tk sh (x1_state_res_sold N tk cp sh fc A H K (nI which.toNatClampNeg)) A K)) 1148846080)) : ZM g yX0_drop cX0_drop 2 (some FieldType.int) 10 5 16 [.ref x, .int which] G0 (fun r G' => r = some (.int (x0_drop N tk cp sh fc A H K which)) ∧ (zFx G' xq x t dq tp bg bl tpd ∧ zTw g G' q t B N tk cp sh fc (x0_drop_gn N tk cp sh fc gn A H K which) ∧ zFrK [(q, 0), (q, 1), (q, 2)] G0 G')) := by
  unfold x0_drop x0_drop_gn
  have hN2 := hN.2.1
  have hN4 := hN.2.2.2.1
  refine ZM_mk hG (by decide) (Nat.le_of_ble_eq_true rfl) ?_
  intro X hX hname hQ
  obtain ⟨G, hGe⟩ : ∃ z, z = G0 := ⟨_, rfl⟩
  have hM : zFx G xq x t dq tp bg bl tpd ∧ zTw g G q t B N tk cp sh fc gn ∧ zFrK [(q, 0), (q, 1), (q, 2)] G0 G := by rw [hGe]; exact ⟨hx, ht, zFrK.rf⟩
  show ZW g X 0 0 G0 0 [(0, .ref x), (1, .int which)] []
  rw [← hGe]
  refine z_iload_n hX dX0_drop_0 1 rfl (i := 1) rfl 1 rfl ?_
  refine z_callSp hX cwX0_197 (w := .int (if zin which 4 then 1 else 0 : Int32)) (met_X0_isState hG which) dX0_drop_1 4 rfl rfl rfl (Nat.le_of_ble_eq_true rfl) (by decide) ⟨Nat.zero_le _, Nat.zero_le _⟩ ?_
  have J2 : ∀ G : zHG, zFx G xq x t dq tp bg bl tpd ∧ zTw g G q t B N tk cp sh fc (if zin which 4 then x1_state_gn N tk cp sh fc gn A H K (nI which.toNatClampNeg) else gn) ∧ zFrK [(q, 0), (q, 1), (q, 2)] G0 G → ZW g X 5 16 G 26 [(0, .ref x)] [.int (if zin which 4 then x1_drop N tk sh (x1_state_res_sold N tk cp sh fc A H K (nI which.toNatClampNeg)) A K else (-1) : Int32)] := by
    intro G hM
    exact z_iret hX hQ (by omega) (by omega) rfl dX0_drop_26 ⟨rfl, hM⟩
  refine z_if_eqP hX (zin which 4) dX0_drop_4 7 rfl (tgt := 25) (by decide) (fun c1 => ?_) (fun c1 => ?_)
  ·
    refine z_iconst hX dX0_drop_25 26 rfl zki_m1 ?_
    refine z_sub [0] rfl ?_
    refine z_widen (u' := 5) (v' := 16) (by omega) (by omega) ?_
    exact z_eqL rfl (by first | (simp only [if_neg c1] <;> rfl; done) | grind) (J2 _ (by first | (simpa only [if_neg c1] using hM) | ((try simp only [if_neg c1]); exact hM)))
  ·
    have e_which := zin_eq c1
    have l_which := zin_lt c1
    refine z_eqL (L' := [(0, .ref x), (1, .int (nI which.toNatClampNeg))]) (st' := []) (by rw [← e_which]) (by first | rfl | rw [← e_which]) ?_
    refine z_aload_n hX dX0_drop_7 8 rfl (i := 0) rfl 0 rfl ?_
    refine z_getf hX fX0_10 hM.1.o dX0_drop_8 11 rfl (x := .ref t) rfl ?_
    refine z_aload_n hX dX0_drop_11 12 rfl (i := 0) rfl 0 rfl ?_
    refine z_getf hX fX0_10 hM.1.o dX0_drop_12 15 rfl (x := .ref t) rfl ?_
    refine z_iload_n hX dX0_drop_15 16 rfl (i := 1) rfl 1 rfl ?_
    obtain ⟨fs9, ho9⟩ := hM.2.1.o
    refine z_callV hX cwX0_202 (met_X1_state hG hM.2.1 hN (nI which.toNatClampNeg)) ho9 rfl rfl dX0_drop_16 19 rfl rfl rfl (Nat.le_of_ble_eq_true rfl) (by decide) ⟨by omega, by omega⟩ (fun r G hP => ?_)
    obtain ⟨ns16, s16, bs16, hzs16, rfl, hP⟩ := hP
    have ne_x_s16 : (xq, 0) ≠ (ns16, 0) := hzs16.neT hM.1.o
    obtain ⟨fs9, ho9⟩ := hM.2.1.o
    have ne_t_s16_0 : (q, 0) ≠ (ns16, 0) := hzs16.neT ho9
    have ne_t_s16_1 : (q, 1) ≠ (ns16, 0) := hzs16.neT ho9
    have ne_t_s16_2 : (q, 2) ≠ (ns16, 0) := hzs16.neT ho9
    have nq_t_s16 : q ≠ ns16 := hzs16 _ _ _ ho9
    have fn_s16 : zFresh G0 ns16 := hzs16.of' hM.2.2 (zfm1 nq_t_s16 (zfm1 nq_t_s16 (zfm1 nq_t_s16 zfm0)))
    have hM : zFx G xq x t dq tp bg bl tpd ∧ zTw g G q t B N tk cp sh fc (x1_state_gn N tk cp sh fc gn A H K (nI which.toNatClampNeg)) ∧ zSt g G (ns16, 0) s16 bs16 (x1_state_res_sold N tk cp sh fc A H K (nI which.toNatClampNeg)) (x1_state_res_fallen N tk cp sh fc A H K (nI which.toNatClampNeg)) ∧ zFrK [(q, 0), (q, 1), (q, 2)] G0 G := ⟨hM.1.kp (hP.2.2.kp (zni1 ne_x_t_00 (zni1 ne_x_t_01 (zni1 ne_x_t_02 zni0)))), hP.1, hP.2.1, hM.2.2.stepL hP.2.2 (zml1 (Or.inl List.mem_cons_self) (zml1 (Or.inl (List.mem_cons_of_mem _ List.mem_cons_self)) (zml1 (Or.inl (List.mem_cons_of_mem _ (List.mem_cons_of_mem _ List.mem_cons_self))) zml0)))⟩
    show ZW g X 5 16 G 19 [(0, .ref x), (1, .int (nI which.toNatClampNeg))] [.ref s16, .ref t]
    obtain ⟨opr, os1, os2, of1, of2, ob1, ob2, hT9, h19, h29⟩ := id hM.2.1
    refine z_callVp hX cwX0_279 (w := .int (x1_drop N tk sh (x1_state_res_sold N tk cp sh fc A H K (nI which.toNatClampNeg)) A K)) (met_X1_drop hG hT9 hM.2.2.1 hN (af0 c1) (af1 c1) (af2 c1) (af3 c1) (af4 c1) (af5 c1)) hT9.o rfl rfl dX0_drop_19 22 rfl rfl rfl (Nat.le_of_ble_eq_true rfl) (by decide) ⟨by omega, by omega⟩ ?_
    refine z_goto hX dX0_drop_22 (tgt := 26) (by decide) ?_
    have hM : zFx G xq x t dq tp bg bl tpd ∧ zTw g G q t B N tk cp sh fc (x1_state_gn N tk cp sh fc gn A H K (nI which.toNatClampNeg)) ∧ zFrK [(q, 0), (q, 1), (q, 2)] G0 G := ⟨hM.1, hM.2.1, hM.2.2.2⟩
    refine z_sub [0] rfl ?_
    exact z_eqL rfl (by first | (simp only [if_pos c1] <;> rfl; done) | grind) (J2 _ (by first | (simpa only [if_pos c1] using hM) | ((try simp only [if_pos c1]); exact hM)))
