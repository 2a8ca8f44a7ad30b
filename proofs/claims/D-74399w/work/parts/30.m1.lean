set_option maxRecDepth 100000
abbrev zin (x : Int32) (n : Nat) : Prop := 0 ≤ x.toInt ∧ x.toInt < n
theorem zin_lt {x : Int32} {n : Nat} (h : zin x n) : x.toNatClampNeg < n := by
  have h1 := h.1; have h2 := h.2
  have : x.toNatClampNeg = x.toInt.toNat := rfl
  omega
theorem zin_eq {x : Int32} {n : Nat} (h : zin x n) : x = nI x.toNatClampNeg := by
  have h1 := h.1
  apply Int32.toInt_inj.mp
  have h3 := Int32.toInt_lt x
  rw [nI_toInt (by have : x.toNatClampNeg = x.toInt.toNat := rfl; omega)]
  have : x.toNatClampNeg = x.toInt.toNat := rfl
  omega
theorem zin_nI {j n : Nat} (hj : j < 2147483648) : zin (nI j) n ↔ j < n := by
  show (0 ≤ (nI j).toInt ∧ (nI j).toInt < n) ↔ _
  rw [nI_toInt hj]
  omega
theorem zkb_17 : (Int8.ofInt (17)).toInt32 = (17 : Int32) := by decide
theorem zki_0 : Int32.ofInt (0) = (0 : Int32) := by decide
theorem zki_1 : Int32.ofInt (1) = (1 : Int32) := by decide
theorem zkb_64 : (Int8.ofInt (64)).toInt32 = (64 : Int32) := by decide
theorem zki_2 : Int32.ofInt (2) = (2 : Int32) := by decide
theorem zki_m1 : Int32.ofInt (-1) = (-1 : Int32) := by decide
theorem zkb_32 : (Int8.ofInt (32)).toInt32 = (32 : Int32) := by decide
theorem zkb_48 : (Int8.ofInt (48)).toInt32 = (48 : Int32) := by decide
theorem zkb_16 : (Int8.ofInt (16)).toInt32 = (16 : Int32) := by decide
theorem zkb_56 : (Int8.ofInt (56)).toInt32 = (56 : Int32) := by decide
theorem zkb_8 : (Int8.ofInt (8)).toInt32 = (8 : Int32) := by decide
theorem zkb_24 : (Int8.ofInt (24)).toInt32 = (24 : Int32) := by decide
theorem zkb_40 : (Int8.ofInt (40)).toInt32 = (40 : Int32) := by decide
theorem zks_255 : (Int16.ofInt (255)).toInt32 = (255 : Int32) := by decide
theorem zkb_31 : (Int8.ofInt (31)).toInt32 = (31 : Int32) := by decide
theorem zks_256 : (Int16.ofInt (256)).toInt32 = (256 : Int32) := by decide
theorem zki_4 : Int32.ofInt (4) = (4 : Int32) := by decide
theorem zkb_63 : (Int8.ofInt (63)).toInt32 = (63 : Int32) := by decide
theorem zkb_m10 : (Int8.ofInt (-10)).toInt32 = (-10 : Int32) := by decide
theorem zkb_10 : (Int8.ofInt (10)).toInt32 = (10 : Int32) := by decide
theorem zkb_m100 : (Int8.ofInt (-100)).toInt32 = (-100 : Int32) := by decide
theorem zkb_100 : (Int8.ofInt (100)).toInt32 = (100 : Int32) := by decide
theorem zkb_m9 : (Int8.ofInt (-9)).toInt32 = (-9 : Int32) := by decide
theorem zkb_45 : (Int8.ofInt (45)).toInt32 = (45 : Int32) := by decide
theorem zkb_110 : (Int8.ofInt (110)).toInt32 = (110 : Int32) := by decide
theorem zkb_117 : (Int8.ofInt (117)).toInt32 = (117 : Int32) := by decide
theorem zkb_108 : (Int8.ofInt (108)).toInt32 = (108 : Int32) := by decide
theorem zkb_6 : (Int8.ofInt (6)).toInt32 = (6 : Int32) := by decide
theorem zki_3 : Int32.ofInt (3) = (3 : Int32) := by decide
theorem zki_5 : Int32.ofInt (5) = (5 : Int32) := by decide
theorem zks_800 : (Int16.ofInt (800)).toInt32 = (800 : Int32) := by decide
theorem zkb_12 : (Int8.ofInt (12)).toInt32 = (12 : Int32) := by decide
theorem zkb_m2 : (Int8.ofInt (-2)).toInt32 = (-2 : Int32) := by decide
theorem zkb_m3 : (Int8.ofInt (-3)).toInt32 = (-3 : Int32) := by decide
theorem zks_2000 : (Int16.ofInt (2000)).toInt32 = (2000 : Int32) := by decide
theorem zks_1000 : (Int16.ofInt (1000)).toInt32 = (1000 : Int32) := by decide
theorem zks_9999 : (Int16.ofInt (9999)).toInt32 = (9999 : Int32) := by decide
theorem zks_360 : (Int16.ofInt (360)).toInt32 = (360 : Int32) := by decide
theorem zks_200 : (Int16.ofInt (200)).toInt32 = (200 : Int32) := by decide
theorem zks_780 : (Int16.ofInt (780)).toInt32 = (780 : Int32) := by decide
theorem zkb_m4 : (Int8.ofInt (-4)).toInt32 = (-4 : Int32) := by decide
theorem zkb_60 : (Int8.ofInt (60)).toInt32 = (60 : Int32) := by decide
theorem zks_999 : (Int16.ofInt (999)).toInt32 = (999 : Int32) := by decide
theorem zkb_59 : (Int8.ofInt (59)).toInt32 = (59 : Int32) := by decide
theorem zks_139 : (Int16.ofInt (139)).toInt32 = (139 : Int32) := by decide
theorem zks_1668 : (Int16.ofInt (1668)).toInt32 = (1668 : Int32) := by decide
theorem zks_1200 : (Int16.ofInt (1200)).toInt32 = (1200 : Int32) := by decide
theorem zkb_20 : (Int8.ofInt (20)).toInt32 = (20 : Int32) := by decide
theorem zkb_97 : (Int8.ofInt (97)).toInt32 = (97 : Int32) := by decide
theorem zkb_122 : (Int8.ofInt (122)).toInt32 = (122 : Int32) := by decide
theorem zkb_57 : (Int8.ofInt (57)).toInt32 = (57 : Int32) := by decide
theorem zkb_9 : (Int8.ofInt (9)).toInt32 = (9 : Int32) := by decide
theorem zkb_99 : (Int8.ofInt (99)).toInt32 = (99 : Int32) := by decide
theorem zkb_13 : (Int8.ofInt (13)).toInt32 = (13 : Int32) := by decide
theorem zks_1529 : (Int16.ofInt (1529)).toInt32 = (1529 : Int32) := by decide
theorem zkb_7 : (Int8.ofInt (7)).toInt32 = (7 : Int32) := by decide
theorem zkb_96 : (Int8.ofInt (96)).toInt32 = (96 : Int32) := by decide
theorem zkb_36 : (Int8.ofInt (36)).toInt32 = (36 : Int32) := by decide
set_option maxHeartbeats 4000000 in
theorem met_X4_isIn {g : Zg} (hG : zG g) {G : zHG} (x : Int32) (lo : Int32) (hi : Int32)    : ZM g yX4_isIn cX4_isIn 3 (some FieldType.boolean) 1 0 0 [.int x, .int lo, .int hi] G (zRet (some (.int (if lo ≤ x ∧ x ≤ hi then 1 else 0 : Int32))) G) := by
  refine ZM_mk hG (by decide) (Nat.le_of_ble_eq_true rfl) ?_
  intro X hX hname hQ
  show ZW g X 0 0 G 0 [(0, .int x), (1, .int lo), (2, .int hi)] []
  refine z_iload_n hX dX4_isIn_0 1 rfl (i := 0) rfl 0 rfl ?_
  refine z_iload_n hX dX4_isIn_1 2 rfl (i := 1) rfl 1 rfl ?_
  have J2 : ZW g X 0 0 G 15 [(0, .int x), (1, .int lo), (2, .int hi)] [.int (if ¬ (x < lo) ∧ (¬ (hi < x)) then 1 else 0 : Int32)] := by
    exact z_zret hX hQ (Nat.zero_le _) (Nat.zero_le _) rfl (z_nb _) dX4_isIn_15 ⟨(by first | (simp only [] <;> rfl; done) | grind), rfl⟩
  refine z_icmp_lt hX dX4_isIn_2 5 rfl (tgt := 14) (by decide) (fun c1 => ?_) (fun c1 => ?_)
  ·
    refine z_iconst hX dX4_isIn_14 15 rfl zki_0 ?_
    exact z_eqL rfl (by first | (simp only [if_pos c1] <;> rfl; done) | grind) J2
  ·
    refine z_iload_n hX dX4_isIn_5 6 rfl (i := 0) rfl 0 rfl ?_
    refine z_iload_n hX dX4_isIn_6 7 rfl (i := 2) rfl 2 rfl ?_
    refine z_icmp_gt hX dX4_isIn_7 10 rfl (tgt := 14) (by decide) (fun c3 => ?_) (fun c3 => ?_)
    ·
      refine z_iconst hX dX4_isIn_14 15 rfl zki_0 ?_
      exact z_eqL rfl (by first | (simp only [if_neg c1, if_pos c3] <;> rfl; done) | grind) J2
    ·
      refine z_iconst hX dX4_isIn_10 11 rfl zki_1 ?_
      refine z_goto hX dX4_isIn_11 (tgt := 15) (by decide) ?_
      exact z_eqL rfl (by first | (simp only [if_neg c1, if_neg c3] <;> rfl; done) | grind) J2
theorem zin_hi {x hi : Int32} {n : Nat} (h : hi.toInt + 1 = n) : (0 ≤ x ∧ x ≤ hi) ↔ zin x n := by
  show _ ↔ (0 ≤ x.toInt ∧ x.toInt < n)
  rw [Int32.le_iff_toInt_le, Int32.le_iff_toInt_le]
  have : (0 : Int32).toInt = 0 := by decide
  rw [this]
  constructor <;> (rintro ⟨a, b⟩; exact ⟨a, by omega⟩)
theorem nI_m1 {n : Nat} (h : n < 1000) : (nI n - 1).toInt + 1 = n := by
  have h2 := pk_sub_toInt (a := n) (b := 1) (by omega) (by omega)
  have h3 : (nI n - 1).toInt = (n : Int) - 1 := h2
  omega
theorem met_X4_isInz {g : Zg} (hG : zG g) {G : zHG} (x hi : Int32) (n : Nat) (h : hi.toInt + 1 = n) : ZM g yX4_isIn cX4_isIn 3 (some .boolean) 1 0 0 [.int x, .int 0, .int hi] G (zRet (some (.int (if zin x n then 1 else 0))) G) := by
  have e : (if zin x n then (1 : Int32) else 0) = (if 0 ≤ x ∧ x ≤ hi then 1 else 0) := by
    by_cases hz : zin x n
    · rw [if_pos hz, if_pos ((zin_hi h).mpr hz)]
    · rw [if_neg hz, if_neg (fun z => hz ((zin_hi h).mp z))]
  rw [e]
  exact met_X4_isIn hG x 0 hi
theorem met_X4_isInj {g : Zg} (hG : zG g) {G : zHG} (x : Nat) (hi : Int32) (n : Nat) (hx : x < 2147483648) (h : hi.toInt + 1 = n) : ZM g yX4_isIn cX4_isIn 3 (some .boolean) 1 0 0 [.int (nI x), .int 0, .int hi] G (zRet (some (.int (if x < n then 1 else 0))) G) := by
  have e : (if x < n then (1 : Int32) else 0) = (if zin (nI x) n then 1 else 0) := by
    by_cases hz : x < n
    · rw [if_pos hz, if_pos ((zin_nI hx).mpr hz)]
    · rw [if_neg hz, if_neg (fun z => hz ((zin_nI hx).mp z))]
  rw [e]
  exact met_X4_isInz hG (nI x) hi n h
theorem z_nb2 {x : Int32} (h : x = 0 ∨ x = 1) : narrow .boolean (.int x) = .int x := by rcases h with rfl | rfl <;> decide
set_option maxHeartbeats 4000000 in
theorem met_X4_isAsset {g : Zg} (hG : zG g) {G : zHG} {o : Nat} {M : MT} (hM : zMo g G o M) {A H : Nat} {K : Nat → Nat} (hN : zWf (mt_now M) A H K) (a : Int32)    : ZM g yX4_isAsset cX4_isAsset 2 (some FieldType.boolean) 2 0 0 [.ref o, .int a] G (zRet (some (.int (if zin a A then 1 else 0 : Int32))) G) := by
  have hN2 := hN.2.1
  have hN4 := hN.2.2.2.1
  have hM : zMs g G G o M := zMs.rf hM
  refine ZM_mk hG (by decide) (Nat.le_of_ble_eq_true rfl) ?_
  intro X hX hname hQ
  show ZW g X 0 0 G 0 [(0, .ref o), (1, .int a)] []
  refine z_iload_n hX dX4_isAsset_0 1 rfl (i := 1) rfl 1 rfl ?_
  refine z_iconst hX dX4_isAsset_1 2 rfl zki_0 ?_
  refine z_aload_n hX dX4_isAsset_2 3 rfl (i := 0) rfl 0 rfl ?_
  refine z_getf hX fX4_7 hM.1.o dX4_isAsset_3 6 rfl (x := .ref (o + 1)) rfl ?_
  refine z_iconst hX dX4_isAsset_6 7 rfl zki_0 ?_
  refine m_ald_now hX hM 0 (by omega) dX4_isAsset_7 8 rfl (w := nI A) hN.1 ?_
  refine z_iconst hX dX4_isAsset_8 9 rfl zki_1 ?_
  refine z_isub hX dX4_isAsset_9 10 rfl (w := (nI A) - 1) rfl ?_
  refine z_callSp hX cwX4_68 (w := .int (if zin a A then 1 else 0 : Int32)) (met_X4_isInz hG a ((nI A) - 1) A (nI_m1 (by omega))) dX4_isAsset_10 13 rfl rfl rfl (Nat.le_of_ble_eq_true rfl) (by decide) ⟨Nat.zero_le _, Nat.zero_le _⟩ ?_
  exact z_zret hX hQ (Nat.zero_le _) (Nat.zero_le _) rfl (z_nb _) dX4_isAsset_13 ⟨rfl, rfl⟩
set_option maxHeartbeats 4000000 in
theorem met_X4_isHouse {g : Zg} (hG : zG g) {G : zHG} {o : Nat} {M : MT} (hM : zMo g G o M) {A H : Nat} {K : Nat → Nat} (hN : zWf (mt_now M) A H K) (h : Int32)    : ZM g yX4_isHouse cX4_isHouse 2 (some FieldType.boolean) 2 0 0 [.ref o, .int h] G (zRet (some (.int (if zin h H then 1 else 0 : Int32))) G) := by
  have hN2 := hN.2.1
  have hN4 := hN.2.2.2.1
  have hM : zMs g G G o M := zMs.rf hM
  refine ZM_mk hG (by decide) (Nat.le_of_ble_eq_true rfl) ?_
  intro X hX hname hQ
  show ZW g X 0 0 G 0 [(0, .ref o), (1, .int h)] []
  refine z_iload_n hX dX4_isHouse_0 1 rfl (i := 1) rfl 1 rfl ?_
  refine z_iconst hX dX4_isHouse_1 2 rfl zki_0 ?_
  refine z_aload_n hX dX4_isHouse_2 3 rfl (i := 0) rfl 0 rfl ?_
  refine z_getf hX fX4_7 hM.1.o dX4_isHouse_3 6 rfl (x := .ref (o + 1)) rfl ?_
  refine z_iconst hX dX4_isHouse_6 7 rfl zki_1 ?_
  refine m_ald_now hX hM 1 (by omega) dX4_isHouse_7 8 rfl (w := nI H) hN.2.2.1 ?_
  refine z_iconst hX dX4_isHouse_8 9 rfl zki_1 ?_
  refine z_isub hX dX4_isHouse_9 10 rfl (w := (nI H) - 1) rfl ?_
  refine z_callSp hX cwX4_68 (w := .int (if zin h H then 1 else 0 : Int32)) (met_X4_isInz hG h ((nI H) - 1) H (nI_m1 (by omega))) dX4_isHouse_10 13 rfl rfl rfl (Nat.le_of_ble_eq_true rfl) (by decide) ⟨Nat.zero_le _, Nat.zero_le _⟩ ?_
  exact z_zret hX hQ (Nat.zero_le _) (Nat.zero_le _) rfl (z_nb _) dX4_isHouse_13 ⟨rfl, rfl⟩
set_option maxHeartbeats 4000000 in
theorem met_X4_houseOf {g : Zg} (hG : zG g) {G : zHG} {o : Nat} {M : MT} (hM : zMo g G o M) (h : Nat) (k : Nat)  (h_h : h < 6) (h_k : k < 5)  : ZM g yX4_houseOf cX4_houseOf 3 (some FieldType.int) 1 0 0 [.ref o, .int (nI h), .int (nI k)] G (zRet (some (.int (mt_now M (10 + (5 * h) + k)))) G) := by
  have hM : zMs g G G o M := zMs.rf hM
  refine ZM_mk hG (by decide) (Nat.le_of_ble_eq_true rfl) ?_
  intro X hX hname hQ
  show ZW g X 0 0 G 0 [(0, .ref o), (1, .int (nI h)), (2, .int (nI k))] []
  refine z_aload_n hX dX4_houseOf_0 1 rfl (i := 0) rfl 0 rfl ?_
  refine z_getf hX fX4_7 hM.1.o dX4_houseOf_1 4 rfl (x := .ref (o + 1)) rfl ?_
  refine z_bipush hX dX4_houseOf_4 6 rfl zkb_10 ?_
  refine z_iconst hX dX4_houseOf_6 7 rfl zki_5 ?_
  refine z_iload_n hX dX4_houseOf_7 8 rfl (i := 1) rfl 1 rfl ?_
  refine z_imul hX dX4_houseOf_8 9 rfl (w := nI (5 * h)) (pk_mul 5 h) ?_
  refine z_iadd hX dX4_houseOf_9 10 rfl (w := nI (10 + (5 * h))) (nI_add 10 (5 * h)) ?_
  refine z_iload_n hX dX4_houseOf_10 11 rfl (i := 2) rfl 2 rfl ?_
  refine z_iadd hX dX4_houseOf_11 12 rfl (w := nI (10 + (5 * h) + k)) (nI_add (10 + (5 * h)) k) ?_
  refine m_ald_now hX hM (10 + (5 * h) + k) (by omega) dX4_houseOf_12 13 rfl (w := mt_now M (10 + (5 * h) + k)) rfl ?_
  exact z_iret hX hQ (Nat.zero_le _) (Nat.zero_le _) rfl dX4_houseOf_13 ⟨rfl, rfl⟩
set_option maxHeartbeats 4000000 in
theorem met_X4_holds {g : Zg} (hG : zG g) {G : zHG} {o : Nat} {M : MT} (hM : zMo g G o M) (h : Nat) (a : Nat)  (h_h : h < 6) (h_a : a < 4)  : ZM g yX4_holds cX4_holds 3 (some FieldType.int) 1 0 0 [.ref o, .int (nI h), .int (nI a)] G (zRet (some (.int (mt_now M (40 + (4 * h) + a)))) G) := by
  have hM : zMs g G G o M := zMs.rf hM
  refine ZM_mk hG (by decide) (Nat.le_of_ble_eq_true rfl) ?_
  intro X hX hname hQ
  show ZW g X 0 0 G 0 [(0, .ref o), (1, .int (nI h)), (2, .int (nI a))] []
  refine z_aload_n hX dX4_holds_0 1 rfl (i := 0) rfl 0 rfl ?_
  refine z_getf hX fX4_7 hM.1.o dX4_holds_1 4 rfl (x := .ref (o + 1)) rfl ?_
  refine z_bipush hX dX4_holds_4 6 rfl zkb_40 ?_
  refine z_iconst hX dX4_holds_6 7 rfl zki_4 ?_
  refine z_iload_n hX dX4_holds_7 8 rfl (i := 1) rfl 1 rfl ?_
  refine z_imul hX dX4_holds_8 9 rfl (w := nI (4 * h)) (pk_mul 4 h) ?_
  refine z_iadd hX dX4_holds_9 10 rfl (w := nI (40 + (4 * h))) (nI_add 40 (4 * h)) ?_
  refine z_iload_n hX dX4_holds_10 11 rfl (i := 2) rfl 2 rfl ?_
  refine z_iadd hX dX4_holds_11 12 rfl (w := nI (40 + (4 * h) + a)) (nI_add (40 + (4 * h)) a) ?_
  refine m_ald_now hX hM (40 + (4 * h) + a) (by omega) dX4_holds_12 13 rfl (w := mt_now M (40 + (4 * h) + a)) rfl ?_
  exact z_iret hX hQ (Nat.zero_le _) (Nat.zero_le _) rfl dX4_holds_13 ⟨rfl, rfl⟩
set_option maxHeartbeats 4000000 in
theorem met_X4_loanOf {g : Zg} (hG : zG g) {G : zHG} {o : Nat} {M : MT} (hM : zMo g G o M) (h : Nat) (k : Nat)  (h_h : h < 6) (h_k : k < 6)  : ZM g yX4_loanOf cX4_loanOf 3 (some FieldType.int) 1 0 0 [.ref o, .int (nI h), .int (nI k)] G (zRet (some (.int (mt_now M (64 + (6 * h) + k)))) G) := by
  have hM : zMs g G G o M := zMs.rf hM
  refine ZM_mk hG (by decide) (Nat.le_of_ble_eq_true rfl) ?_
  intro X hX hname hQ
  show ZW g X 0 0 G 0 [(0, .ref o), (1, .int (nI h)), (2, .int (nI k))] []
  refine z_aload_n hX dX4_loanOf_0 1 rfl (i := 0) rfl 0 rfl ?_
  refine z_getf hX fX4_7 hM.1.o dX4_loanOf_1 4 rfl (x := .ref (o + 1)) rfl ?_
  refine z_bipush hX dX4_loanOf_4 6 rfl zkb_64 ?_
  refine z_bipush hX dX4_loanOf_6 8 rfl zkb_6 ?_
  refine z_iload_n hX dX4_loanOf_8 9 rfl (i := 1) rfl 1 rfl ?_
  refine z_imul hX dX4_loanOf_9 10 rfl (w := nI (6 * h)) (pk_mul 6 h) ?_
  refine z_iadd hX dX4_loanOf_10 11 rfl (w := nI (64 + (6 * h))) (nI_add 64 (6 * h)) ?_
  refine z_iload_n hX dX4_loanOf_11 12 rfl (i := 2) rfl 2 rfl ?_
  refine z_iadd hX dX4_loanOf_12 13 rfl (w := nI (64 + (6 * h) + k)) (nI_add (64 + (6 * h)) k) ?_
  refine m_ald_now hX hM (64 + (6 * h) + k) (by omega) dX4_loanOf_13 14 rfl (w := mt_now M (64 + (6 * h) + k)) rfl ?_
  exact z_iret hX hQ (Nat.zero_le _) (Nat.zero_le _) rfl dX4_loanOf_14 ⟨rfl, rfl⟩
set_option maxHeartbeats 4000000 in
theorem met_X4_laidOf {g : Zg} (hG : zG g) {G : zHG} {o : Nat} {M : MT} (hM : zMo g G o M) (s : Nat) (k : Nat) (w : Nat)  (h_s : s < 3) (h_k : k < 4) (h_w : w < 3)  : ZM g yX4_laidOf cX4_laidOf 4 (some FieldType.int) 1 0 0 [.ref o, .int (nI s), .int (nI k), .int (nI w)] G (zRet (some (.int (mt_now M (100 + (13 * s) + 1 + (3 * k) + w)))) G) := by
  have hM : zMs g G G o M := zMs.rf hM
  refine ZM_mk hG (by decide) (Nat.le_of_ble_eq_true rfl) ?_
  intro X hX hname hQ
  show ZW g X 0 0 G 0 [(0, .ref o), (1, .int (nI s)), (2, .int (nI k)), (3, .int (nI w))] []
  refine z_aload_n hX dX4_laidOf_0 1 rfl (i := 0) rfl 0 rfl ?_
  refine z_getf hX fX4_7 hM.1.o dX4_laidOf_1 4 rfl (x := .ref (o + 1)) rfl ?_
  refine z_bipush hX dX4_laidOf_4 6 rfl zkb_100 ?_
  refine z_bipush hX dX4_laidOf_6 8 rfl zkb_13 ?_
  refine z_iload_n hX dX4_laidOf_8 9 rfl (i := 1) rfl 1 rfl ?_
  refine z_imul hX dX4_laidOf_9 10 rfl (w := nI (13 * s)) (pk_mul 13 s) ?_
  refine z_iadd hX dX4_laidOf_10 11 rfl (w := nI (100 + (13 * s))) (nI_add 100 (13 * s)) ?_
  refine z_iconst hX dX4_laidOf_11 12 rfl zki_1 ?_
  refine z_iadd hX dX4_laidOf_12 13 rfl (w := nI (100 + (13 * s) + 1)) (nI_add (100 + (13 * s)) 1) ?_
  refine z_iconst hX dX4_laidOf_13 14 rfl zki_3 ?_
  refine z_iload_n hX dX4_laidOf_14 15 rfl (i := 2) rfl 2 rfl ?_
  refine z_imul hX dX4_laidOf_15 16 rfl (w := nI (3 * k)) (pk_mul 3 k) ?_
  refine z_iadd hX dX4_laidOf_16 17 rfl (w := nI (100 + (13 * s) + 1 + (3 * k))) (nI_add (100 + (13 * s) + 1) (3 * k)) ?_
  refine z_iload_n hX dX4_laidOf_17 18 rfl (i := 3) rfl 3 rfl ?_
  refine z_iadd hX dX4_laidOf_18 19 rfl (w := nI (100 + (13 * s) + 1 + (3 * k) + w)) (nI_add (100 + (13 * s) + 1 + (3 * k)) w) ?_
  refine m_ald_now hX hM (100 + (13 * s) + 1 + (3 * k) + w) (by omega) dX4_laidOf_19 20 rfl (w := mt_now M (100 + (13 * s) + 1 + (3 * k) + w)) rfl ?_
  exact z_iret hX hQ (Nat.zero_le _) (Nat.zero_le _) rfl dX4_laidOf_20 ⟨rfl, rfl⟩
def x4_heldOf_l4 (m_now : Nat → Int32) (a : Nat) (ini : Int32) (k : Nat) : Int32 := zfold k (fun j1 cj1 => cj1 + (m_now (40 + (4 * j1) + a))) ini
theorem x4_heldOf_l4_0 (m_now : Nat → Int32) (a : Nat) (ini : Int32) : x4_heldOf_l4 m_now a ini 0 = ini := (zfold_0 _ _).trans (Eq.refl _)
def x4_heldOf (m_now : Nat → Int32) (H : Nat) (a : Nat) : Int32 := x4_heldOf_l4 (m_now) a 0 H
set_option maxHeartbeats 4000000 in
theorem met_X4_heldOf {g : Zg} (hG : zG g) {G : zHG} {o : Nat} {M : MT} (hM : zMo g G o M) {A H : Nat} {K : Nat → Nat} (hN : zWf (mt_now M) A H K) (a : Nat)  (h_a : a < 4)  : ZM g yX4_heldOf cX4_heldOf 4 (some FieldType.int) 2 0 0 [.ref o, .int (nI a)] G (zRet (some (.int (x4_heldOf (mt_now M) H a))) G) := by
  unfold x4_heldOf
  have hN2 := hN.2.1
  have hN4 := hN.2.2.2.1
  have hM : zMs g G G o M := zMs.rf hM
  refine ZM_mk hG (by decide) (Nat.le_of_ble_eq_true rfl) ?_
  intro X hX hname hQ
  show ZW g X 0 0 G 0 [(0, .ref o), (1, .int (nI a))] []
  refine z_iconst hX dX4_heldOf_0 1 rfl zki_0 ?_
  refine z_istore_n hX dX4_heldOf_1 2 rfl (i := 2) rfl (Nat.le_of_ble_eq_true rfl) rfl (L' := [(0, .ref o), (1, .int (nI a)), (2, .int 0)]) rfl ?_
  refine z_iconst hX dX4_heldOf_2 3 rfl zki_0 ?_
  refine z_istore_n hX dX4_heldOf_3 4 rfl (i := 3) rfl (Nat.le_of_ble_eq_true rfl) rfl (L' := [(0, .ref o), (1, .int (nI a)), (2, .int 0), (3, .int 0)]) rfl ?_
  have E2 : ZW g X 0 0 G 29 [(0, .ref o), (1, .int (nI a)), (2, .int (x4_heldOf_l4 (mt_now M) a 0 H)), (3, .int (nI H))] [] := by
    refine z_iload_n hX dX4_heldOf_29 30 rfl (i := 2) rfl 2 rfl ?_
    exact z_iret hX hQ (Nat.zero_le _) (Nat.zero_le _) rfl dX4_heldOf_30 ⟨rfl, rfl⟩
  have Lp3 : ∀ k j1 : Nat, j1 + k = H → ZW g X 0 0 G 4 [(0, .ref o), (1, .int (nI a)), (2, .int (x4_heldOf_l4 (mt_now M) a 0 j1)), (3, .int (nI j1))] [] := by
    intro k
    induction k with
    | zero =>
      intro j1 hj1
      rw [show j1 = H from by omega]
      refine z_iload_n hX dX4_heldOf_4 5 rfl (i := 3) rfl 3 rfl ?_
      refine z_aload_n hX dX4_heldOf_5 6 rfl (i := 0) rfl 0 rfl ?_
      refine z_getf hX fX4_7 hM.1.o dX4_heldOf_6 9 rfl (x := .ref (o + 1)) rfl ?_
      refine z_iconst hX dX4_heldOf_9 10 rfl zki_1 ?_
      refine m_ald_now hX hM 1 (by omega) dX4_heldOf_10 11 rfl (w := nI H) hN.2.2.1 ?_
      refine z_icmp_geN hX H H (by omega) (by omega) dX4_heldOf_11 14 rfl (tgt := 29) (by decide) (fun c4 => ?_) (fun c4 => ?_)
      · exact E2
      · exact absurd c4 (by omega)
    | succ k ih =>
      intro j1 hj1
      refine z_iload_n hX dX4_heldOf_4 5 rfl (i := 3) rfl 3 rfl ?_
      refine z_aload_n hX dX4_heldOf_5 6 rfl (i := 0) rfl 0 rfl ?_
      refine z_getf hX fX4_7 hM.1.o dX4_heldOf_6 9 rfl (x := .ref (o + 1)) rfl ?_
      refine z_iconst hX dX4_heldOf_9 10 rfl zki_1 ?_
      refine m_ald_now hX hM 1 (by omega) dX4_heldOf_10 11 rfl (w := nI H) hN.2.2.1 ?_
      refine z_icmp_geN hX j1 H (by omega) (by omega) dX4_heldOf_11 14 rfl (tgt := 29) (by decide) (fun c5 => ?_) (fun c5 => ?_)
      · exact absurd c5 (by omega)
      ·
        refine z_iload_n hX dX4_heldOf_14 15 rfl (i := 2) rfl 2 rfl ?_
        refine z_aload_n hX dX4_heldOf_15 16 rfl (i := 0) rfl 0 rfl ?_
        refine z_iload_n hX dX4_heldOf_16 17 rfl (i := 3) rfl 3 rfl ?_
        refine z_iload_n hX dX4_heldOf_17 18 rfl (i := 1) rfl 1 rfl ?_
        refine z_callVp hX cwX4_72 (w := .int (mt_now M (40 + (4 * j1) + a))) (met_X4_holds hG hM.1 j1 a (by omega) (by omega)) hM.1.o rfl rfl dX4_heldOf_18 21 rfl rfl rfl (Nat.le_of_ble_eq_true rfl) (by decide) ⟨Nat.zero_le _, Nat.zero_le _⟩ ?_
        refine z_iadd hX dX4_heldOf_21 22 rfl (w := (x4_heldOf_l4 (mt_now M) a 0 j1) + (mt_now M (40 + (4 * j1) + a))) rfl ?_
        refine z_istore_n hX dX4_heldOf_22 23 rfl (i := 2) rfl (Nat.le_of_ble_eq_true rfl) rfl (L' := [(0, .ref o), (1, .int (nI a)), (2, .int ((x4_heldOf_l4 (mt_now M) a 0 j1) + (mt_now M (40 + (4 * j1) + a)))), (3, .int (nI j1))]) rfl ?_
        refine z_iinc hX dX4_heldOf_23 26 rfl 3 rfl (w := nI (j1 + 1)) (nI_1 j1) (Nat.le_of_ble_eq_true rfl) rfl (L' := [(0, .ref o), (1, .int (nI a)), (2, .int ((x4_heldOf_l4 (mt_now M) a 0 j1) + (mt_now M (40 + (4 * j1) + a)))), (3, .int (nI (j1 + 1)))]) rfl ?_
        refine z_goto hX dX4_heldOf_26 (tgt := 4) (by decide) ?_
        exact ih (j1 + 1) (by omega)
  exact Lp3 H 0 (by omega)
def x4_bits_l4 (x : Int32) (ini : Int32) (k : Nat) : Int32 := zfold k (fun j1 cj1 => cj1 + ((x >>> ((nI j1) &&& 31)) &&& 1)) ini
theorem x4_bits_l4_0 (x : Int32) (ini : Int32) : x4_bits_l4 x ini 0 = ini := (zfold_0 _ _).trans (Eq.refl _)
def x4_bits (x : Int32) : Int32 := x4_bits_l4 x 0 6
set_option maxHeartbeats 4000000 in
theorem met_X4_bits {g : Zg} (hG : zG g) {G : zHG} (x : Int32)    : ZM g yX4_bits cX4_bits 3 (some FieldType.int) 1 0 0 [.int x] G (zRet (some (.int (x4_bits x))) G) := by
  unfold x4_bits
  refine ZM_mk hG (by decide) (Nat.le_of_ble_eq_true rfl) ?_
  intro X hX hname hQ
  show ZW g X 0 0 G 0 [(0, .int x)] []
  refine z_iconst hX dX4_bits_0 1 rfl zki_0 ?_
  refine z_istore_n hX dX4_bits_1 2 rfl (i := 1) rfl (Nat.le_of_ble_eq_true rfl) rfl (L' := [(0, .int x), (1, .int 0)]) rfl ?_
  refine z_iconst hX dX4_bits_2 3 rfl zki_0 ?_
  refine z_istore_n hX dX4_bits_3 4 rfl (i := 2) rfl (Nat.le_of_ble_eq_true rfl) rfl (L' := [(0, .int x), (1, .int 0), (2, .int 0)]) rfl ?_
  have E2 : ZW g X 0 0 G 24 [(0, .int x), (1, .int (x4_bits_l4 x 0 6)), (2, .int (nI 6))] [] := by
    refine z_iload_n hX dX4_bits_24 25 rfl (i := 1) rfl 1 rfl ?_
    exact z_iret hX hQ (Nat.zero_le _) (Nat.zero_le _) rfl dX4_bits_25 ⟨rfl, rfl⟩
  have Lp3 : ∀ k j1 : Nat, j1 + k = 6 → ZW g X 0 0 G 4 [(0, .int x), (1, .int (x4_bits_l4 x 0 j1)), (2, .int (nI j1))] [] := by
    intro k
    induction k with
    | zero =>
      intro j1 hj1
      rw [show j1 = 6 from by omega]
      refine z_iload_n hX dX4_bits_4 5 rfl (i := 2) rfl 2 rfl ?_
      refine z_bipush hX dX4_bits_5 7 rfl zkb_6 ?_
      refine z_icmp_geN hX 6 6 (by omega) (by omega) dX4_bits_7 10 rfl (tgt := 24) (by decide) (fun c4 => ?_) (fun c4 => ?_)
      · exact E2
      · exact absurd c4 (by omega)
    | succ k ih =>
      intro j1 hj1
      refine z_iload_n hX dX4_bits_4 5 rfl (i := 2) rfl 2 rfl ?_
      refine z_bipush hX dX4_bits_5 7 rfl zkb_6 ?_
      refine z_icmp_geN hX j1 6 (by omega) (by omega) dX4_bits_7 10 rfl (tgt := 24) (by decide) (fun c5 => ?_) (fun c5 => ?_)
      · exact absurd c5 (by omega)
      ·
        refine z_iload_n hX dX4_bits_10 11 rfl (i := 1) rfl 1 rfl ?_
        refine z_iload_n hX dX4_bits_11 12 rfl (i := 0) rfl 0 rfl ?_
        refine z_iload_n hX dX4_bits_12 13 rfl (i := 2) rfl 2 rfl ?_
        refine z_ishr hX dX4_bits_13 14 rfl (w := x >>> ((nI j1) &&& 31)) rfl ?_
        refine z_iconst hX dX4_bits_14 15 rfl zki_1 ?_
        refine z_iand hX dX4_bits_15 16 rfl (w := (x >>> ((nI j1) &&& 31)) &&& 1) rfl ?_
        refine z_iadd hX dX4_bits_16 17 rfl (w := (x4_bits_l4 x 0 j1) + ((x >>> ((nI j1) &&& 31)) &&& 1)) rfl ?_
        refine z_istore_n hX dX4_bits_17 18 rfl (i := 1) rfl (Nat.le_of_ble_eq_true rfl) rfl (L' := [(0, .int x), (1, .int ((x4_bits_l4 x 0 j1) + ((x >>> ((nI j1) &&& 31)) &&& 1))), (2, .int (nI j1))]) rfl ?_
        refine z_iinc hX dX4_bits_18 21 rfl 2 rfl (w := nI (j1 + 1)) (nI_1 j1) (Nat.le_of_ble_eq_true rfl) rfl (L' := [(0, .int x), (1, .int ((x4_bits_l4 x 0 j1) + ((x >>> ((nI j1) &&& 31)) &&& 1))), (2, .int (nI (j1 + 1)))]) rfl ?_
        refine z_goto hX dX4_bits_21 (tgt := 4) (by decide) ?_
        exact ih (j1 + 1) (by omega)
  exact Lp3 6 0 (by omega)
def x4_held (x : Int32) (y : Int32) : Int32 := (if y ≤ x then y else x : Int32)
set_option maxHeartbeats 4000000 in
theorem met_X4_held {g : Zg} (hG : zG g) {G : zHG} (x : Int32) (y : Int32)    : ZM g yX4_held cX4_held 2 (some FieldType.int) 1 0 0 [.int x, .int y] G (zRet (some (.int (x4_held x y))) G) := by
  unfold x4_held
  refine ZM_mk hG (by decide) (Nat.le_of_ble_eq_true rfl) ?_
  intro X hX hname hQ
  show ZW g X 0 0 G 0 [(0, .int x), (1, .int y)] []
  refine z_iload_n hX dX4_held_0 1 rfl (i := 0) rfl 0 rfl ?_
  refine z_iload_n hX dX4_held_1 2 rfl (i := 1) rfl 1 rfl ?_
  have J2 : ZW g X 0 0 G 10 [(0, .int x), (1, .int y)] [.int (if y ≤ x then y else x : Int32)] := by
    exact z_iret hX hQ (Nat.zero_le _) (Nat.zero_le _) rfl dX4_held_10 ⟨rfl, rfl⟩
  refine z_icmp_ge hX dX4_held_2 5 rfl (tgt := 9) (by decide) (fun c1 => ?_) (fun c1 => ?_)
  ·
    refine z_iload_n hX dX4_held_9 10 rfl (i := 1) rfl 1 rfl ?_
    exact z_eqL rfl (by first | (simp only [if_pos c1] <;> rfl; done) | grind) J2
  ·
    refine z_iload_n hX dX4_held_5 6 rfl (i := 0) rfl 0 rfl ?_
    refine z_goto hX dX4_held_6 (tgt := 10) (by decide) ?_
    exact z_eqL rfl (by first | (simp only [if_neg c1] <;> rfl; done) | grind) J2
