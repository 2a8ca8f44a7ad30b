set_option maxRecDepth 100000
theorem z_lcmp_eq {g : Zg} {X : Zx} {own : String} {cc : ByteArray} {nL : Nat} {ret : Option FieldType} {d mc ms : Nat} {u v pc : Nat} {G : zHG} {L : List (Nat × Value)} {st : List Value} (hX : zOk g X own cc nL ret d mc ms) {x y : Int64} {off : Int} {tgt : Nat} (hdg : decode cc pc = .ok (.ifCond .eq off, 3)) (p : Nat) (hp : pc + 3 = p) (ht : (pc : Int) + off = (tgt : Int)) (k1 : x = y → ZW g X u v G tgt L st) (k2 : ¬ x = y → ZW g X u v G p L st) : ZW g X u v G pc L (.int (lg_cmp x y) :: st) :=
  z_if_eq hX hdg p hp ht (fun h => k1 ((lg_cmp_eq x y).mp h)) (fun h => k2 (fun e => h ((lg_cmp_eq x y).mpr e)))
theorem z_lcmp_ne {g : Zg} {X : Zx} {own : String} {cc : ByteArray} {nL : Nat} {ret : Option FieldType} {d mc ms : Nat} {u v pc : Nat} {G : zHG} {L : List (Nat × Value)} {st : List Value} (hX : zOk g X own cc nL ret d mc ms) {x y : Int64} {off : Int} {tgt : Nat} (hdg : decode cc pc = .ok (.ifCond .ne off, 3)) (p : Nat) (hp : pc + 3 = p) (ht : (pc : Int) + off = (tgt : Int)) (k1 : ¬ x = y → ZW g X u v G tgt L st) (k2 : x = y → ZW g X u v G p L st) : ZW g X u v G pc L (.int (lg_cmp x y) :: st) :=
  z_if_ne hX hdg p hp ht (fun h => k1 (fun e => h ((lg_cmp_eq x y).mpr e))) (fun h => k2 ((lg_cmp_eq x y).mp h))
theorem z_lcmp_lt {g : Zg} {X : Zx} {own : String} {cc : ByteArray} {nL : Nat} {ret : Option FieldType} {d mc ms : Nat} {u v pc : Nat} {G : zHG} {L : List (Nat × Value)} {st : List Value} (hX : zOk g X own cc nL ret d mc ms) {x y : Int64} {off : Int} {tgt : Nat} (hdg : decode cc pc = .ok (.ifCond .lt off, 3)) (p : Nat) (hp : pc + 3 = p) (ht : (pc : Int) + off = (tgt : Int)) (k1 : x < y → ZW g X u v G tgt L st) (k2 : ¬ x < y → ZW g X u v G p L st) : ZW g X u v G pc L (.int (lg_cmp x y) :: st) :=
  z_if_lt hX hdg p hp ht (fun h => k1 ((lg_cmp_lt x y).mp h)) (fun h => k2 (fun e => h ((lg_cmp_lt x y).mpr e)))
theorem z_lcmp_gt {g : Zg} {X : Zx} {own : String} {cc : ByteArray} {nL : Nat} {ret : Option FieldType} {d mc ms : Nat} {u v pc : Nat} {G : zHG} {L : List (Nat × Value)} {st : List Value} (hX : zOk g X own cc nL ret d mc ms) {x y : Int64} {off : Int} {tgt : Nat} (hdg : decode cc pc = .ok (.ifCond .gt off, 3)) (p : Nat) (hp : pc + 3 = p) (ht : (pc : Int) + off = (tgt : Int)) (k1 : y < x → ZW g X u v G tgt L st) (k2 : ¬ y < x → ZW g X u v G p L st) : ZW g X u v G pc L (.int (lg_cmp x y) :: st) :=
  z_if_gt hX hdg p hp ht (fun h => k1 ((lg_cmp_gt x y).mp h)) (fun h => k2 (fun e => h ((lg_cmp_gt x y).mpr e)))
theorem z_lcmp_ge {g : Zg} {X : Zx} {own : String} {cc : ByteArray} {nL : Nat} {ret : Option FieldType} {d mc ms : Nat} {u v pc : Nat} {G : zHG} {L : List (Nat × Value)} {st : List Value} (hX : zOk g X own cc nL ret d mc ms) {x y : Int64} {off : Int} {tgt : Nat} (hdg : decode cc pc = .ok (.ifCond .ge off, 3)) (p : Nat) (hp : pc + 3 = p) (ht : (pc : Int) + off = (tgt : Int)) (k1 : ¬ x < y → ZW g X u v G tgt L st) (k2 : x < y → ZW g X u v G p L st) : ZW g X u v G pc L (.int (lg_cmp x y) :: st) :=
  z_if_ge hX hdg p hp ht (fun h => k1 (Int64.not_lt.mpr ((lg_cmp_ge x y).mp h))) (fun h => k2 (Int64.not_le.mp (fun e => h ((lg_cmp_ge x y).mpr e))))
theorem z_lcmp_le {g : Zg} {X : Zx} {own : String} {cc : ByteArray} {nL : Nat} {ret : Option FieldType} {d mc ms : Nat} {u v pc : Nat} {G : zHG} {L : List (Nat × Value)} {st : List Value} (hX : zOk g X own cc nL ret d mc ms) {x y : Int64} {off : Int} {tgt : Nat} (hdg : decode cc pc = .ok (.ifCond .le off, 3)) (p : Nat) (hp : pc + 3 = p) (ht : (pc : Int) + off = (tgt : Int)) (k1 : ¬ y < x → ZW g X u v G tgt L st) (k2 : y < x → ZW g X u v G p L st) : ZW g X u v G pc L (.int (lg_cmp x y) :: st) :=
  z_if_le hX hdg p hp ht (fun h => k1 (Int64.not_lt.mpr ((lg_cmp_le x y).mp h))) (fun h => k2 (Int64.not_le.mp (fun e => h ((lg_cmp_le x y).mpr e))))
abbrev x4_isLetter (m_tape : Nat → Int32) (k : Nat) (S : Nat) : Prop := ¬ (S ≤ k) ∧ (97 ≤ (m_tape k) ∧ (m_tape k) ≤ 122)
set_option maxHeartbeats 4000000 in
theorem met_X4_isLetter {g : Zg} (hG : zG g) {G : zHG} {o : Nat} {M : MT} (hM : zMo g G o M) (k : Nat) (S : Nat)  (h_k : k < 801) (h_S : S < 801) (hfS : mt_size M = nI S)  : ZM g yX4_isLetter cX4_isLetter 2 (some FieldType.boolean) 2 0 0 [.ref o, .int (nI k)] G (zRet (some (.int (if x4_isLetter (mt_tape M) k S then 1 else 0))) G) := by
  have hM : zMs g G G o M := zMs.rf hM
  refine ZM_mk hG (by decide) (Nat.le_of_ble_eq_true rfl) ?_
  intro X hX hname hQ
  show ZW g X 0 0 G 0 [(0, .ref o), (1, .int (nI k))] []
  refine z_iload_n hX dX4_isLetter_0 1 rfl (i := 1) rfl 1 rfl ?_
  refine z_aload_n hX dX4_isLetter_1 2 rfl (i := 0) rfl 0 rfl ?_
  refine m_get_size hX hM fX4_79 dX4_isLetter_2 5 rfl (w := nI S) hfS ?_
  have J2 : ZW g X 0 0 G 29 [(0, .ref o), (1, .int (nI k))] [.int (if ¬ (S ≤ k) ∧ (97 ≤ (mt_tape M k) ∧ (mt_tape M k) ≤ 122) then 1 else 0 : Int32)] := by
    exact z_zret hX hQ (Nat.zero_le _) (Nat.zero_le _) rfl (z_nb _) dX4_isLetter_29 ⟨rfl, rfl⟩
  refine z_icmp_geN hX k S (by omega) (by omega) dX4_isLetter_5 8 rfl (tgt := 28) (by decide) (fun c1 => ?_) (fun c1 => ?_)
  ·
    refine z_iconst hX dX4_isLetter_28 29 rfl zki_0 ?_
    exact z_eqL rfl (by first | (simp only [if_pos c1] <;> rfl; done) | grind) J2
  ·
    refine z_aload_n hX dX4_isLetter_8 9 rfl (i := 0) rfl 0 rfl ?_
    refine z_getf hX fX4_19 hM.1.o dX4_isLetter_9 12 rfl (x := .ref (o + 4)) rfl ?_
    refine z_iload_n hX dX4_isLetter_12 13 rfl (i := 1) rfl 1 rfl ?_
    refine m_ald_tape hX hM k (by omega) dX4_isLetter_13 14 rfl (w := mt_tape M k) rfl ?_
    refine z_bipush hX dX4_isLetter_14 16 rfl zkb_97 ?_
    refine z_bipush hX dX4_isLetter_16 18 rfl zkb_122 ?_
    refine z_callSp hX cwX4_68 (w := .int (if 97 ≤ (mt_tape M k) ∧ (mt_tape M k) ≤ 122 then 1 else 0 : Int32)) (met_X4_isIn hG (mt_tape M k) 97 122) dX4_isLetter_18 21 rfl rfl rfl (Nat.le_of_ble_eq_true rfl) (by decide) ⟨Nat.zero_le _, Nat.zero_le _⟩ ?_
    refine z_if_eqP hX (97 ≤ (mt_tape M k) ∧ (mt_tape M k) ≤ 122) dX4_isLetter_21 24 rfl (tgt := 28) (by decide) (fun c3 => ?_) (fun c3 => ?_)
    ·
      refine z_iconst hX dX4_isLetter_28 29 rfl zki_0 ?_
      exact z_eqL rfl (by first | (simp only [if_neg (Nat.not_le.mpr c1), if_neg c3] <;> rfl; done) | grind) J2
    ·
      refine z_iconst hX dX4_isLetter_24 25 rfl zki_1 ?_
      refine z_goto hX dX4_isLetter_25 (tgt := 29) (by decide) ?_
      exact z_eqL rfl (by first | (simp only [if_neg (Nat.not_le.mpr c1), if_pos c3] <;> rfl; done) | grind) J2
abbrev x4_isDigit (m_tape : Nat → Int32) (k : Nat) (S : Nat) : Prop := ¬ (S ≤ k) ∧ (48 ≤ (m_tape k) ∧ (m_tape k) ≤ 57)
set_option maxHeartbeats 4000000 in
theorem met_X4_isDigit {g : Zg} (hG : zG g) {G : zHG} {o : Nat} {M : MT} (hM : zMo g G o M) (k : Nat) (S : Nat)  (h_k : k < 801) (h_S : S < 801) (hfS : mt_size M = nI S)  : ZM g yX4_isDigit cX4_isDigit 2 (some FieldType.boolean) 2 0 0 [.ref o, .int (nI k)] G (zRet (some (.int (if x4_isDigit (mt_tape M) k S then 1 else 0))) G) := by
  have hM : zMs g G G o M := zMs.rf hM
  refine ZM_mk hG (by decide) (Nat.le_of_ble_eq_true rfl) ?_
  intro X hX hname hQ
  show ZW g X 0 0 G 0 [(0, .ref o), (1, .int (nI k))] []
  refine z_iload_n hX dX4_isDigit_0 1 rfl (i := 1) rfl 1 rfl ?_
  refine z_aload_n hX dX4_isDigit_1 2 rfl (i := 0) rfl 0 rfl ?_
  refine m_get_size hX hM fX4_79 dX4_isDigit_2 5 rfl (w := nI S) hfS ?_
  have J2 : ZW g X 0 0 G 29 [(0, .ref o), (1, .int (nI k))] [.int (if ¬ (S ≤ k) ∧ (48 ≤ (mt_tape M k) ∧ (mt_tape M k) ≤ 57) then 1 else 0 : Int32)] := by
    exact z_zret hX hQ (Nat.zero_le _) (Nat.zero_le _) rfl (z_nb _) dX4_isDigit_29 ⟨rfl, rfl⟩
  refine z_icmp_geN hX k S (by omega) (by omega) dX4_isDigit_5 8 rfl (tgt := 28) (by decide) (fun c1 => ?_) (fun c1 => ?_)
  ·
    refine z_iconst hX dX4_isDigit_28 29 rfl zki_0 ?_
    exact z_eqL rfl (by first | (simp only [if_pos c1] <;> rfl; done) | grind) J2
  ·
    refine z_aload_n hX dX4_isDigit_8 9 rfl (i := 0) rfl 0 rfl ?_
    refine z_getf hX fX4_19 hM.1.o dX4_isDigit_9 12 rfl (x := .ref (o + 4)) rfl ?_
    refine z_iload_n hX dX4_isDigit_12 13 rfl (i := 1) rfl 1 rfl ?_
    refine m_ald_tape hX hM k (by omega) dX4_isDigit_13 14 rfl (w := mt_tape M k) rfl ?_
    refine z_bipush hX dX4_isDigit_14 16 rfl zkb_48 ?_
    refine z_bipush hX dX4_isDigit_16 18 rfl zkb_57 ?_
    refine z_callSp hX cwX4_68 (w := .int (if 48 ≤ (mt_tape M k) ∧ (mt_tape M k) ≤ 57 then 1 else 0 : Int32)) (met_X4_isIn hG (mt_tape M k) 48 57) dX4_isDigit_18 21 rfl rfl rfl (Nat.le_of_ble_eq_true rfl) (by decide) ⟨Nat.zero_le _, Nat.zero_le _⟩ ?_
    refine z_if_eqP hX (48 ≤ (mt_tape M k) ∧ (mt_tape M k) ≤ 57) dX4_isDigit_21 24 rfl (tgt := 28) (by decide) (fun c3 => ?_) (fun c3 => ?_)
    ·
      refine z_iconst hX dX4_isDigit_28 29 rfl zki_0 ?_
      exact z_eqL rfl (by first | (simp only [if_neg (Nat.not_le.mpr c1), if_neg c3] <;> rfl; done) | grind) J2
    ·
      refine z_iconst hX dX4_isDigit_24 25 rfl zki_1 ?_
      refine z_goto hX dX4_isDigit_25 (tgt := 29) (by decide) ?_
      exact z_eqL rfl (by first | (simp only [if_neg (Nat.not_le.mpr c1), if_pos c3] <;> rfl; done) | grind) J2
def x4_wrong_fault (m_fault : Int32) (place : Int32) : Int32 := if (m_fault) = (-1) then place else m_fault
set_option maxHeartbeats 4000000 in
theorem met_X4_wrong {g : Zg} (hG : zG g) {G0 : zHG} {o : Nat} {M : MT} (hM : zMo g G0 o M) (place : Int32)    : ZM g yX4_wrong cX4_wrong 2 none 1 0 0 [.ref o, .int place] G0 (fun r G' => r = none ∧ zMs g G0 G' o (ms_fault M (x4_wrong_fault (mt_fault M) place))) := by
  unfold x4_wrong_fault
  refine ZM_mk hG (by decide) (Nat.le_of_ble_eq_true rfl) ?_
  intro X hX hname hQ
  obtain ⟨G, hGe⟩ : ∃ z, z = G0 := ⟨_, rfl⟩
  have hM : zMs g G0 G o M := by rw [hGe]; exact zMs.rf hM
  show ZW g X 0 0 G0 0 [(0, .ref o), (1, .int place)] []
  rw [← hGe]
  refine z_aload_n hX dX4_wrong_0 1 rfl (i := 0) rfl 0 rfl ?_
  refine m_get_fault hX hM fX4_82 dX4_wrong_1 4 rfl (w := mt_fault M) rfl ?_
  refine z_iconst hX dX4_wrong_4 5 rfl zki_m1 ?_
  have J2 : ∀ G : zHG, zMs g G0 G o (ms_fault M (if (mt_fault M) = (-1) then place else mt_fault M)) → ZW g X 0 0 G 13 [(0, .ref o), (1, .int place)] [] := by
    intro G hM
    exact z_vret hX hQ (Nat.zero_le _) (Nat.zero_le _) rfl dX4_wrong_13 ⟨rfl, hM⟩
  refine z_icmp_ne hX dX4_wrong_5 8 rfl (tgt := 13) (by decide) (fun c1 => ?_) (fun c1 => ?_)
  ·
    exact z_eqL rfl rfl (J2 _ (by first | (simpa only [if_neg c1, me_fault] using hM) | (simpa only [if_neg c1, me2_fault] using hM)))
  ·
    refine z_aload_n hX dX4_wrong_8 9 rfl (i := 0) rfl 0 rfl ?_
    refine z_iload_n hX dX4_wrong_9 10 rfl (i := 1) rfl 1 rfl ?_
    refine m_put_fault hX hM fX4_82 dX4_wrong_10 13 rfl (fun G hM => ?_)
    have hM : zMs g G0 G o (ms_fault M place) := hM
    exact z_eqL rfl rfl (J2 _ (by first | (simpa only [if_pos c1, me_fault] using hM) | (simpa only [if_pos c1, me2_fault] using hM)))
def x4_feed_l18 (a : Int32) (b : Int32) (c : Int32) (dd : Int32) (e : Int32) (V : Nat) (ini : Nat → Int32) (k : Nat) : Nat → Int32 := zfold k (fun j2 cj2 => upd cj2 (V + j2) (((if 4 ≤ j2 then (if 8 ≤ j2 then (if 12 ≤ j2 then (if 16 ≤ j2 then e else dd : Int32) else c : Int32) else b : Int32) else a : Int32) >>> ((24 - (nI (8 * (j2 % 4)))) &&& 31)) &&& 255)) ini
theorem x4_feed_l18_0 (a : Int32) (b : Int32) (c : Int32) (dd : Int32) (e : Int32) (V : Nat) (ini : Nat → Int32) : x4_feed_l18 a b c dd e V ini 0 = ini := (zfold_0 _ _).trans (Eq.refl _)
def x4_feed (a : Int32) (b : Int32) (c : Int32) (dd : Int32) (e : Int32) (V : Nat) : Int32 := (if V + 20 ≤ 800 then nI (V + 20) else (-1) : Int32)
def x4_feed_tape (m_tape : Nat → Int32) (a : Int32) (b : Int32) (c : Int32) (dd : Int32) (e : Int32) (V : Nat) : Nat → Int32 := if V + 20 ≤ 800 then x4_feed_l18 a b c dd e V (m_tape) 20 else m_tape
def x4_feed_taped (m_taped : Int32) (a : Int32) (b : Int32) (c : Int32) (dd : Int32) (e : Int32) (V : Nat) : Int32 := if V + 20 ≤ 800 then nI (V + 20) else m_taped
set_option maxHeartbeats 4000000 in
theorem met_X4_feed {g : Zg} (hG : zG g) {G0 : zHG} {o : Nat} {M : MT} (hM : zMo g G0 o M) (a : Int32) (b : Int32) (c : Int32) (dd : Int32) (e : Int32) (V : Nat)  (h_V : V < 801) (hfV : mt_taped M = nI V)  : ZM g yX4_feed cX4_feed 8 (some FieldType.int) 1 0 0 [.ref o, .int a, .int b, .int c, .int dd, .int e] G0 (fun r G' => r = some (.int (x4_feed a b c dd e V)) ∧ zMs g G0 G' o (ms_taped (ms_tape M (x4_feed_tape (mt_tape M) a b c dd e V)) (x4_feed_taped (mt_taped M) a b c dd e V))) := by
  unfold x4_feed x4_feed_tape x4_feed_taped
  refine ZM_mk hG (by decide) (Nat.le_of_ble_eq_true rfl) ?_
  intro X hX hname hQ
  obtain ⟨G, hGe⟩ : ∃ z, z = G0 := ⟨_, rfl⟩
  have hM : zMs g G0 G o M := by rw [hGe]; exact zMs.rf hM
  show ZW g X 0 0 G0 0 [(0, .ref o), (1, .int a), (2, .int b), (3, .int c), (4, .int dd), (5, .int e)] []
  rw [← hGe]
  refine z_aload_n hX dX4_feed_0 1 rfl (i := 0) rfl 0 rfl ?_
  refine m_get_taped hX hM fX4_76 dX4_feed_1 4 rfl (w := nI V) hfV ?_
  refine z_bipush hX dX4_feed_4 6 rfl zkb_20 ?_
  refine z_iadd hX dX4_feed_6 7 rfl (w := nI (V + 20)) (nI_add V 20) ?_
  refine z_sipush hX dX4_feed_7 10 rfl zks_800 ?_
  refine z_icmp_leN hX (V + 20) 800 (by omega) (by omega) dX4_feed_10 13 rfl (tgt := 15) (by decide) (fun c1 => ?_) (fun c1 => ?_)
  ·
    refine z_iconst hX dX4_feed_15 16 rfl zki_0 ?_
    refine z_istore hX dX4_feed_16 18 rfl (Nat.le_of_ble_eq_true rfl) rfl (L' := [(0, .ref o), (1, .int a), (2, .int b), (3, .int c), (4, .int dd), (5, .int e), (6, .int 0)]) rfl ?_
    have E3 : ∀ G : zHG, zMs g G0 G o (ms_taped (ms_tape M (x4_feed_l18 a b c dd e V (mt_tape M) 20)) (nI (V + 20))) → ZW g X 0 0 G 115 [(0, .ref o), (1, .int a), (2, .int b), (3, .int c), (4, .int dd), (5, .int e), (6, .int (nI 20))] [] := by
      intro G hM
      refine z_aload_n hX dX4_feed_115 116 rfl (i := 0) rfl 0 rfl ?_
      refine m_get_taped hX hM fX4_76 dX4_feed_116 119 rfl (w := nI (V + 20)) (mgs_taped _ _) ?_
      exact z_iret hX hQ (Nat.zero_le _) (Nat.zero_le _) rfl dX4_feed_119 ⟨(by first | (simp only [if_pos c1] <;> rfl; done) | grind), (by first | (simpa only [if_pos c1, me_tape, me_taped] using hM) | (simpa only [if_pos c1, me2_tape, me2_taped, mg_taped_tape] using hM))⟩
    have Lp4 : ∀ k j2 : Nat, j2 + k = 20 → ∀ G : zHG, zMs g G0 G o (ms_taped (ms_tape M (x4_feed_l18 a b c dd e V (mt_tape M) j2)) (nI (V + j2))) → ZW g X 0 0 G 18 [(0, .ref o), (1, .int a), (2, .int b), (3, .int c), (4, .int dd), (5, .int e), (6, .int (nI j2))] [] := by
      intro k
      induction k with
      | zero =>
        intro j2 hj2 G hM
        rw [show j2 = 20 from by omega] at hM ⊢
        refine z_iload hX dX4_feed_18 20 rfl 6 rfl ?_
        refine z_bipush hX dX4_feed_20 22 rfl zkb_20 ?_
        refine z_icmp_geN hX 20 20 (by omega) (by omega) dX4_feed_22 25 rfl (tgt := 115) (by decide) (fun c5 => ?_) (fun c5 => ?_)
        · exact E3 _ hM
        · exact absurd c5 (by omega)
      | succ k ih =>
        intro j2 hj2 G hM
        refine z_iload hX dX4_feed_18 20 rfl 6 rfl ?_
        refine z_bipush hX dX4_feed_20 22 rfl zkb_20 ?_
        refine z_icmp_geN hX j2 20 (by omega) (by omega) dX4_feed_22 25 rfl (tgt := 115) (by decide) (fun c6 => ?_) (fun c6 => ?_)
        · exact absurd c6 (by omega)
        ·
          refine z_iload hX dX4_feed_25 27 rfl 6 rfl ?_
          refine z_iconst hX dX4_feed_27 28 rfl zki_4 ?_
          have J8 : ZW g X 0 0 G 71 [(0, .ref o), (1, .int a), (2, .int b), (3, .int c), (4, .int dd), (5, .int e), (6, .int (nI j2))] [.int (if 4 ≤ j2 then (if 8 ≤ j2 then (if 12 ≤ j2 then (if 16 ≤ j2 then e else dd : Int32) else c : Int32) else b : Int32) else a : Int32)] := by
            refine z_istore hX dX4_feed_71 73 rfl (Nat.le_of_ble_eq_true rfl) rfl (L' := [(0, .ref o), (1, .int a), (2, .int b), (3, .int c), (4, .int dd), (5, .int e), (6, .int (nI j2)), (7, .int (if 4 ≤ j2 then (if 8 ≤ j2 then (if 12 ≤ j2 then (if 16 ≤ j2 then e else dd : Int32) else c : Int32) else b : Int32) else a : Int32))]) rfl ?_
            refine z_aload_n hX dX4_feed_73 74 rfl (i := 0) rfl 0 rfl ?_
            refine z_getf hX fX4_19 hM.1.o dX4_feed_74 77 rfl (x := .ref (o + 4)) rfl ?_
            refine z_aload_n hX dX4_feed_77 78 rfl (i := 0) rfl 0 rfl ?_
            refine m_get_taped hX hM fX4_76 dX4_feed_78 81 rfl (w := nI (V + j2)) (mgs_taped _ _) ?_
            refine z_iload hX dX4_feed_81 83 rfl 7 rfl ?_
            refine z_bipush hX dX4_feed_83 85 rfl zkb_24 ?_
            refine z_bipush hX dX4_feed_85 87 rfl zkb_8 ?_
            refine z_iload hX dX4_feed_87 89 rfl 6 rfl ?_
            refine z_iconst hX dX4_feed_89 90 rfl zki_4 ?_
            refine z_irem hX dX4_feed_90 91 rfl (by decide) (w := nI (j2 % 4)) (pk_rem (by omega) (by decide) (by decide)) ?_
            refine z_imul hX dX4_feed_91 92 rfl (w := nI (8 * (j2 % 4))) (pk_mul 8 (j2 % 4)) ?_
            refine z_isub hX dX4_feed_92 93 rfl (w := 24 - (nI (8 * (j2 % 4)))) rfl ?_
            refine z_ishr hX dX4_feed_93 94 rfl (w := (if 4 ≤ j2 then (if 8 ≤ j2 then (if 12 ≤ j2 then (if 16 ≤ j2 then e else dd : Int32) else c : Int32) else b : Int32) else a : Int32) >>> ((24 - (nI (8 * (j2 % 4)))) &&& 31)) rfl ?_
            refine z_sipush hX dX4_feed_94 97 rfl zks_255 ?_
            refine z_iand hX dX4_feed_97 98 rfl (w := ((if 4 ≤ j2 then (if 8 ≤ j2 then (if 12 ≤ j2 then (if 16 ≤ j2 then e else dd : Int32) else c : Int32) else b : Int32) else a : Int32) >>> ((24 - (nI (8 * (j2 % 4)))) &&& 31)) &&& 255) rfl ?_
            refine m_ast_tape hX hM (V + j2) (by omega) dX4_feed_98 99 rfl (fun G hM => ?_)
            have hM : zMs g G0 G o (ms_taped (ms_tape M (upd (x4_feed_l18 a b c dd e V (mt_tape M) j2) (V + j2) (((if 4 ≤ j2 then (if 8 ≤ j2 then (if 12 ≤ j2 then (if 16 ≤ j2 then e else dd : Int32) else c : Int32) else b : Int32) else a : Int32) >>> ((24 - (nI (8 * (j2 % 4)))) &&& 31)) &&& 255))) (nI (V + j2))) := by simpa only [mgs_tape, mg_tape_taped, mc_tape_taped, mm_tape, mm_taped] using hM
            refine z_aload_n hX dX4_feed_99 100 rfl (i := 0) rfl 0 rfl ?_
            refine z_dup hX dX4_feed_100 101 rfl rfl ?_
            refine m_get_taped hX hM fX4_76 dX4_feed_101 104 rfl (w := nI (V + j2)) (mgs_taped _ _) ?_
            refine z_iconst hX dX4_feed_104 105 rfl zki_1 ?_
            refine z_iadd hX dX4_feed_105 106 rfl (w := nI (V + j2 + 1)) (nI_add (V + j2) 1) ?_
            refine m_put_taped hX hM fX4_76 dX4_feed_106 109 rfl (fun G hM => ?_)
            have hM : zMs g G0 G o (ms_taped (ms_tape M (upd (x4_feed_l18 a b c dd e V (mt_tape M) j2) (V + j2) (((if 4 ≤ j2 then (if 8 ≤ j2 then (if 12 ≤ j2 then (if 16 ≤ j2 then e else dd : Int32) else c : Int32) else b : Int32) else a : Int32) >>> ((24 - (nI (8 * (j2 % 4)))) &&& 31)) &&& 255))) (nI (V + j2 + 1))) := by simpa only [mc_tape_taped, mm_tape, mm_taped] using hM
            refine z_iinc hX dX4_feed_109 112 rfl 6 rfl (w := nI (j2 + 1)) (nI_1 j2) (Nat.le_of_ble_eq_true rfl) rfl (L' := [(0, .ref o), (1, .int a), (2, .int b), (3, .int c), (4, .int dd), (5, .int e), (6, .int (nI (j2 + 1))), (7, .int (if 4 ≤ j2 then (if 8 ≤ j2 then (if 12 ≤ j2 then (if 16 ≤ j2 then e else dd : Int32) else c : Int32) else b : Int32) else a : Int32))]) rfl ?_
            refine z_goto hX dX4_feed_112 (tgt := 18) (by decide) ?_
            refine z_sub [0, 1, 2, 3, 4, 5, 6] rfl ?_
            exact ih (j2 + 1) (by omega) _ hM
          refine z_icmp_geN hX j2 4 (by omega) (by omega) dX4_feed_28 31 rfl (tgt := 35) (by decide) (fun c7 => ?_) (fun c7 => ?_)
          ·
            refine z_iload hX dX4_feed_35 37 rfl 6 rfl ?_
            refine z_bipush hX dX4_feed_37 39 rfl zkb_8 ?_
            refine z_icmp_geN hX j2 8 (by omega) (by omega) dX4_feed_39 42 rfl (tgt := 46) (by decide) (fun c9 => ?_) (fun c9 => ?_)
            ·
              refine z_iload hX dX4_feed_46 48 rfl 6 rfl ?_
              refine z_bipush hX dX4_feed_48 50 rfl zkb_12 ?_
              refine z_icmp_geN hX j2 12 (by omega) (by omega) dX4_feed_50 53 rfl (tgt := 57) (by decide) (fun c10 => ?_) (fun c10 => ?_)
              ·
                refine z_iload hX dX4_feed_57 59 rfl 6 rfl ?_
                refine z_bipush hX dX4_feed_59 61 rfl zkb_16 ?_
                refine z_icmp_geN hX j2 16 (by omega) (by omega) dX4_feed_61 64 rfl (tgt := 69) (by decide) (fun c11 => ?_) (fun c11 => ?_)
                ·
                  refine z_iload hX dX4_feed_69 71 rfl 5 rfl ?_
                  exact z_eqL rfl (by first | (simp only [if_pos c1, if_pos c7, if_pos c9, if_pos c10, if_pos c11] <;> rfl; done) | grind) J8
                ·
                  refine z_iload hX dX4_feed_64 66 rfl 4 rfl ?_
                  refine z_goto hX dX4_feed_66 (tgt := 71) (by decide) ?_
                  exact z_eqL rfl (by first | (simp only [if_pos c1, if_pos c7, if_pos c9, if_pos c10, if_neg (Nat.not_le.mpr c11)] <;> rfl; done) | grind) J8
              ·
                refine z_iload_n hX dX4_feed_53 54 rfl (i := 3) rfl 3 rfl ?_
                refine z_goto hX dX4_feed_54 (tgt := 71) (by decide) ?_
                exact z_eqL rfl (by first | (simp only [if_pos c1, if_pos c7, if_pos c9, if_neg (Nat.not_le.mpr c10)] <;> rfl; done) | grind) J8
            ·
              refine z_iload_n hX dX4_feed_42 43 rfl (i := 2) rfl 2 rfl ?_
              refine z_goto hX dX4_feed_43 (tgt := 71) (by decide) ?_
              exact z_eqL rfl (by first | (simp only [if_pos c1, if_pos c7, if_neg (Nat.not_le.mpr c9)] <;> rfl; done) | grind) J8
          ·
            refine z_iload_n hX dX4_feed_31 32 rfl (i := 1) rfl 1 rfl ?_
            refine z_goto hX dX4_feed_32 (tgt := 71) (by decide) ?_
            exact z_eqL rfl (by first | (simp only [if_pos c1, if_neg (Nat.not_le.mpr c7)] <;> rfl; done) | grind) J8
    have hM : zMs g G0 G o (ms_taped (ms_tape M (x4_feed_l18 a b c dd e V (mt_tape M) 0)) (nI V)) := by simpa only [x4_feed_l18_0, me_tape, mm_tape, me2_taped, me_taped, mc_tape_taped, mm_tape, mm_taped, hfV] using hM
    exact Lp4 20 0 (by omega) _ hM
  ·
    refine z_iconst hX dX4_feed_13 14 rfl zki_m1 ?_
    exact z_iret hX hQ (Nat.zero_le _) (Nat.zero_le _) rfl dX4_feed_14 ⟨(by first | (simp only [if_neg c1] <;> rfl; done) | grind), (by first | (simpa only [if_neg c1, me_tape, me_taped] using hM) | (simpa only [if_neg c1, me2_tape, me2_taped, mg_taped_tape] using hM))⟩
def x4_back (n : Int32) (V : Nat) : Int32 := (if 0 ≤ n ∧ n ≤ (nI V) then (nI V) - n else (-1) : Int32)
def x4_back_taped (m_taped : Int32) (n : Int32) (V : Nat) : Int32 := if 0 ≤ n ∧ n ≤ (nI V) then (nI V) - n else m_taped
set_option maxHeartbeats 4000000 in
theorem met_X4_back {g : Zg} (hG : zG g) {G0 : zHG} {o : Nat} {M : MT} (hM : zMo g G0 o M) (n : Int32) (V : Nat)  (h_V : V < 801) (hfV : mt_taped M = nI V)  : ZM g yX4_back cX4_back 2 (some FieldType.int) 2 0 0 [.ref o, .int n] G0 (fun r G' => r = some (.int (x4_back n V)) ∧ zMs g G0 G' o (ms_taped M (x4_back_taped (mt_taped M) n V))) := by
  unfold x4_back x4_back_taped
  refine ZM_mk hG (by decide) (Nat.le_of_ble_eq_true rfl) ?_
  intro X hX hname hQ
  obtain ⟨G, hGe⟩ : ∃ z, z = G0 := ⟨_, rfl⟩
  have hM : zMs g G0 G o M := by rw [hGe]; exact zMs.rf hM
  show ZW g X 0 0 G0 0 [(0, .ref o), (1, .int n)] []
  rw [← hGe]
  refine z_iload_n hX dX4_back_0 1 rfl (i := 1) rfl 1 rfl ?_
  refine z_iconst hX dX4_back_1 2 rfl zki_0 ?_
  refine z_aload_n hX dX4_back_2 3 rfl (i := 0) rfl 0 rfl ?_
  refine m_get_taped hX hM fX4_76 dX4_back_3 6 rfl (w := nI V) hfV ?_
  refine z_callSp hX cwX4_68 (w := .int (if 0 ≤ n ∧ n ≤ (nI V) then 1 else 0 : Int32)) (met_X4_isIn hG n 0 (nI V)) dX4_back_6 9 rfl rfl rfl (Nat.le_of_ble_eq_true rfl) (by decide) ⟨Nat.zero_le _, Nat.zero_le _⟩ ?_
  refine z_if_neP hX (0 ≤ n ∧ n ≤ (nI V)) dX4_back_9 12 rfl (tgt := 14) (by decide) (fun c1 => ?_) (fun c1 => ?_)
  ·
    refine z_aload_n hX dX4_back_14 15 rfl (i := 0) rfl 0 rfl ?_
    refine z_dup hX dX4_back_15 16 rfl rfl ?_
    refine m_get_taped hX hM fX4_76 dX4_back_16 19 rfl (w := nI V) hfV ?_
    refine z_iload_n hX dX4_back_19 20 rfl (i := 1) rfl 1 rfl ?_
    refine z_isub hX dX4_back_20 21 rfl (w := (nI V) - n) rfl ?_
    refine m_put_taped hX hM fX4_76 dX4_back_21 24 rfl (fun G hM => ?_)
    have hM : zMs g G0 G o (ms_taped M ((nI V) - n)) := hM
    refine z_aload_n hX dX4_back_24 25 rfl (i := 0) rfl 0 rfl ?_
    refine m_get_taped hX hM fX4_76 dX4_back_25 28 rfl (w := (nI V) - n) (mgs_taped _ _) ?_
    exact z_iret hX hQ (Nat.zero_le _) (Nat.zero_le _) rfl dX4_back_28 ⟨(by first | (simp only [if_pos c1] <;> rfl; done) | grind), (by first | (simpa only [if_pos c1, me_taped] using hM) | (simpa only [if_pos c1, me2_taped] using hM))⟩
  ·
    refine z_iconst hX dX4_back_12 13 rfl zki_m1 ?_
    exact z_iret hX hQ (Nat.zero_le _) (Nat.zero_le _) rfl dX4_back_13 ⟨(by first | (simp only [if_neg c1] <;> rfl; done) | grind), (by first | (simpa only [if_neg c1, me_taped] using hM) | (simpa only [if_neg c1, me2_taped] using hM))⟩
def x4_spellsByte_spelt (m_spelt : Nat → Int32) (c : Int32) (T : Nat) : Nat → Int32 := upd (m_spelt) T c
set_option maxHeartbeats 4000000 in
theorem met_X4_spellsByte {g : Zg} (hG : zG g) {G0 : zHG} {o : Nat} {M : MT} (hM : zMo g G0 o M) (c : Int32) (T : Nat)  (h_T : T < 1200) (hfT : mt_speltMany M = nI T)  : ZM g yX4_spellsByte cX4_spellsByte 2 none 1 0 0 [.ref o, .int c] G0 (fun r G' => r = none ∧ zMs g G0 G' o (ms_speltMany (ms_spelt M (x4_spellsByte_spelt (mt_spelt M) c T)) (nI (T + 1)))) := by
  unfold x4_spellsByte_spelt
  refine ZM_mk hG (by decide) (Nat.le_of_ble_eq_true rfl) ?_
  intro X hX hname hQ
  obtain ⟨G, hGe⟩ : ∃ z, z = G0 := ⟨_, rfl⟩
  have hM : zMs g G0 G o M := by rw [hGe]; exact zMs.rf hM
  show ZW g X 0 0 G0 0 [(0, .ref o), (1, .int c)] []
  rw [← hGe]
  refine z_aload_n hX dX4_spellsByte_0 1 rfl (i := 0) rfl 0 rfl ?_
  refine z_getf hX fX4_62 hM.1.o dX4_spellsByte_1 4 rfl (x := .ref (o + 14)) rfl ?_
  refine z_aload_n hX dX4_spellsByte_4 5 rfl (i := 0) rfl 0 rfl ?_
  refine m_get_speltMany hX hM fX4_342 dX4_spellsByte_5 8 rfl (w := nI T) hfT ?_
  refine z_iload_n hX dX4_spellsByte_8 9 rfl (i := 1) rfl 1 rfl ?_
  refine m_ast_spelt hX hM T (by omega) dX4_spellsByte_9 10 rfl (fun G hM => ?_)
  have hM : zMs g G0 G o (ms_spelt M (upd (mt_spelt M) T c)) := hM
  refine z_aload_n hX dX4_spellsByte_10 11 rfl (i := 0) rfl 0 rfl ?_
  refine z_dup hX dX4_spellsByte_11 12 rfl rfl ?_
  refine m_get_speltMany hX hM fX4_342 dX4_spellsByte_12 15 rfl (w := nI T) ((mg_speltMany_spelt _ _).trans hfT) ?_
  refine z_iconst hX dX4_spellsByte_15 16 rfl zki_1 ?_
  refine z_iadd hX dX4_spellsByte_16 17 rfl (w := nI (T + 1)) (nI_add T 1) ?_
  refine m_put_speltMany hX hM fX4_342 dX4_spellsByte_17 20 rfl (fun G hM => ?_)
  have hM : zMs g G0 G o (ms_speltMany (ms_spelt M (upd (mt_spelt M) T c)) (nI (T + 1))) := hM
  exact z_vret hX hQ (Nat.zero_le _) (Nat.zero_le _) rfl dX4_spellsByte_20 ⟨rfl, hM⟩
