set_option maxRecDepth 100000
theorem zsc_ty (g : Zg) {s : Nat} (hs : s < 3) : ∃ ty, (ztys g)[zsc s]? = some (zca g (zsc s), ty) ∧ ty.isReference = true := by
  rcases s with _ | _ | _ | s
  · exact ⟨_, rfl, rfl⟩
  · exact ⟨_, rfl, rfl⟩
  · exact ⟨_, rfl, rfl⟩
  · omega
theorem zml0 {ks : List (Nat × Nat)} {G0 : zHG} : ∀ κ ∈ ([] : List (Nat × Nat)), κ ∈ ks ∨ zFresh G0 κ.1 := fun _ h => by cases h
theorem zml1 {ks l : List (Nat × Nat)} {G0 : zHG} {κ : Nat × Nat} (h : κ ∈ ks ∨ zFresh G0 κ.1) (t : ∀ κ ∈ l, κ ∈ ks ∨ zFresh G0 κ.1) : ∀ κ' ∈ κ :: l, κ' ∈ ks ∨ zFresh G0 κ'.1 := fun κ' hk => by
  rcases List.mem_cons.mp hk with e | e
  · rw [e]; exact h
  · exact t κ' e
theorem zFrK.stepL {ks ks' : List (Nat × Nat)} {G0 G G' : zHG} (h : zFrK ks G0 G) (hf : zFrK ks' G G') (hm : ∀ κ ∈ ks', κ ∈ ks ∨ zFresh G0 κ.1) : zFrK ks G0 G' := fun a lb e h1 h2 => hf a lb e (h a lb e h1 h2) (h2.imp_right (fun hn z => by
  rcases hm _ z with y | y
  · exact hn y
  · exact y a lb e h1 rfl))
theorem zlt64 {x y : Int32} : x.toInt64 < y.toInt64 ↔ x < y := by
  rw [Int64.lt_iff_toInt_lt, Int32.toInt_toInt64, Int32.toInt_toInt64, ← Int32.lt_iff_toInt_lt]
theorem r_get_asset {g : Zg} {X : Zx} {own : String} {cc : ByteArray} {nL : Nat} {ret : Option FieldType} {d mc ms : Nat} {u v pc : Nat} {G : zHG} {L : List (Nat × Value)} {st : List Value} (hX : zOk g X own cc nL ret d mc ms) {idx r : Nat} {kd as mu : Int32} (hR : zRu G r kd as mu) (hF7 : zFg own idx 7 0) (hF8 : zFg own idx 8 0) (hdg : decode cc pc = .ok (.getfield idx, 3)) (p : Nat) (hp : pc + 3 = p) (kk : ZW g X u v G p L (.int as :: st)) : ZW g X u v G pc L (.ref r :: st) := by
  rcases hR with ⟨_, h⟩ | ⟨_, h⟩
  · exact z_getf hX hF7 h hdg p hp rfl kk
  · exact z_getf hX hF8 h hdg p hp rfl kk
theorem r_get_assetN {g : Zg} {X : Zx} {own : String} {cc : ByteArray} {nL : Nat} {ret : Option FieldType} {d mc ms : Nat} {u v pc : Nat} {G : zHG} {L : List (Nat × Value)} {st : List Value} (hX : zOk g X own cc nL ret d mc ms) {idx r : Nat} {kd as mu : Int32} (hR : zRu G r kd as mu) (hF7 : zFgN own idx 7 0) (hF8 : zFgN own idx 8 0) (hdg : decode cc pc = .ok (.getfield idx, 3)) (p : Nat) (hp : pc + 3 = p) (kk : ZW g X u v G p L (.int as :: st)) : ZW g X u v G pc L (.ref r :: st) := by
  rcases hR with ⟨_, h⟩ | ⟨_, h⟩
  · exact z_getfN hX hF7 h hdg p hp rfl kk
  · exact z_getfN hX hF8 h hdg p hp rfl kk
theorem r_get_much {g : Zg} {X : Zx} {own : String} {cc : ByteArray} {nL : Nat} {ret : Option FieldType} {d mc ms : Nat} {u v pc : Nat} {G : zHG} {L : List (Nat × Value)} {st : List Value} (hX : zOk g X own cc nL ret d mc ms) {idx r : Nat} {kd as mu : Int32} (hR : zRu G r kd as mu) (hF7 : zFg own idx 7 1) (hF8 : zFg own idx 8 1) (hdg : decode cc pc = .ok (.getfield idx, 3)) (p : Nat) (hp : pc + 3 = p) (kk : ZW g X u v G p L (.int mu :: st)) : ZW g X u v G pc L (.ref r :: st) := by
  rcases hR with ⟨_, h⟩ | ⟨_, h⟩
  · exact z_getf hX hF7 h hdg p hp rfl kk
  · exact z_getf hX hF8 h hdg p hp rfl kk
theorem r_get_muchN {g : Zg} {X : Zx} {own : String} {cc : ByteArray} {nL : Nat} {ret : Option FieldType} {d mc ms : Nat} {u v pc : Nat} {G : zHG} {L : List (Nat × Value)} {st : List Value} (hX : zOk g X own cc nL ret d mc ms) {idx r : Nat} {kd as mu : Int32} (hR : zRu G r kd as mu) (hF7 : zFgN own idx 7 1) (hF8 : zFgN own idx 8 1) (hdg : decode cc pc = .ok (.getfield idx, 3)) (p : Nat) (hp : pc + 3 = p) (kk : ZW g X u v G p L (.int mu :: st)) : ZW g X u v G pc L (.ref r :: st) := by
  rcases hR with ⟨_, h⟩ | ⟨_, h⟩
  · exact z_getfN hX hF7 h hdg p hp rfl kk
  · exact z_getfN hX hF8 h hdg p hp rfl kk
abbrev x0_in (v : Int64) (lo : Int64) (hi : Int64) : Prop := ¬ (v < lo) ∧ (¬ (hi < v))
set_option maxHeartbeats 4000000 in
theorem met_X0_in {g : Zg} (hG : zG g) {G : zHG} (v : Int64) (lo : Int64) (hi : Int64)  : ZM g yX0_in cX0_in 6 (some FieldType.boolean) 0 0 0 [.long v, .long lo, .long hi] G (zRet (some (.int (if x0_in v lo hi then 1 else 0))) G) := by
  refine ZM_mk hG (by decide) (Nat.le_of_ble_eq_true rfl) ?_
  intro X hX hname hQ
  show ZW g X 0 0 G 0 [(0, .long v), (2, .long lo), (4, .long hi)] []
  refine z_lload_n hX dX0_in_0 1 rfl (i := 2) rfl 1 rfl ?_
  refine z_lload_n hX dX0_in_1 2 rfl (i := 0) rfl 0 rfl ?_
  refine z_lcmp hX dX0_in_2 3 rfl ?_
  have J2 : ZW g X 0 0 G 18 [(0, .long v), (2, .long lo), (4, .long hi)] [.int (if ¬ (v < lo) ∧ (¬ (hi < v)) then 1 else 0 : Int32)] := by
    exact z_zret hX hQ (Nat.zero_le _) (Nat.zero_le _) rfl (z_nb _) dX0_in_18 ⟨rfl, rfl⟩
  refine z_lcmp_gt hX dX0_in_3 6 rfl (tgt := 17) (by decide) (fun c1 => ?_) (fun c1 => ?_)
  ·
    refine z_iconst hX dX0_in_17 18 rfl zki_0 ?_
    exact z_eqL rfl (by first | (simp only [if_pos c1] <;> rfl; done) | grind) J2
  ·
    refine z_lload_n hX dX0_in_6 7 rfl (i := 0) rfl 0 rfl ?_
    refine z_lload hX dX0_in_7 9 rfl 2 rfl ?_
    refine z_lcmp hX dX0_in_9 10 rfl ?_
    refine z_lcmp_gt hX dX0_in_10 13 rfl (tgt := 17) (by decide) (fun c3 => ?_) (fun c3 => ?_)
    ·
      refine z_iconst hX dX0_in_17 18 rfl zki_0 ?_
      exact z_eqL rfl (by first | (simp only [if_neg c1, if_pos c3] <;> rfl; done) | grind) J2
    ·
      refine z_iconst hX dX0_in_13 14 rfl zki_1 ?_
      refine z_goto hX dX0_in_14 (tgt := 18) (by decide) ?_
      exact z_eqL rfl (by first | (simp only [if_neg c1, if_neg c3] <;> rfl; done) | grind) J2
theorem met_X0_inI {g : Zg} (hG : zG g) {G : zHG} (x lo hi : Int32) : ZM g yX0_in cX0_in 6 (some .boolean) 0 0 0 [.long x.toInt64, .long lo.toInt64, .long hi.toInt64] G (zRet (some (.int (if lo ≤ x ∧ x ≤ hi then 1 else 0))) G) := by
  have e : (if lo ≤ x ∧ x ≤ hi then (1 : Int32) else 0) = (if x0_in x.toInt64 lo.toInt64 hi.toInt64 then 1 else 0) := by
    have h1 : (lo ≤ x ∧ x ≤ hi) ↔ x0_in x.toInt64 lo.toInt64 hi.toInt64 := by
      show _ ↔ (¬ _ ∧ ¬ _)
      rw [zlt64, zlt64, Int32.not_lt, Int32.not_lt]
    by_cases hz : lo ≤ x ∧ x ≤ hi
    · rw [if_pos hz, if_pos (h1.mp hz)]
    · rw [if_neg hz, if_neg (fun z => hz (h1.mpr z))]
  rw [e]
  exact met_X0_in hG _ _ _
theorem met_X0_inz {g : Zg} (hG : zG g) {G : zHG} (x hi : Int32) (n : Nat) (h : hi.toInt + 1 = n) : ZM g yX0_in cX0_in 6 (some .boolean) 0 0 0 [.long x.toInt64, .long (0 : Int32).toInt64, .long hi.toInt64] G (zRet (some (.int (if zin x n then 1 else 0))) G) := by
  have e : (if zin x n then (1 : Int32) else 0) = (if 0 ≤ x ∧ x ≤ hi then 1 else 0) := by
    by_cases hz : zin x n
    · rw [if_pos hz, if_pos ((zin_hi h).mpr hz)]
    · rw [if_neg hz, if_neg (fun z => hz ((zin_hi h).mp z))]
  rw [e]
  exact met_X0_inI hG x 0 hi
theorem met_X0_inj {g : Zg} (hG : zG g) {G : zHG} (x : Nat) (hi : Int32) (n : Nat) (hx : x < 2147483648) (h : hi.toInt + 1 = n) : ZM g yX0_in cX0_in 6 (some .boolean) 0 0 0 [.long (nI x).toInt64, .long (0 : Int32).toInt64, .long hi.toInt64] G (zRet (some (.int (if x < n then 1 else 0))) G) := by
  have e : (if x < n then (1 : Int32) else 0) = (if zin (nI x) n then 1 else 0) := by
    by_cases hz : x < n
    · rw [if_pos hz, if_pos ((zin_nI hx).mpr hz)]
    · rw [if_neg hz, if_neg (fun z => hz ((zin_nI hx).mp z))]
  rw [e]
  exact met_X0_inz hG (nI x) hi n h
abbrev x0_has (set : Int32) (k : Int32) : Prop := ((set >>> (k &&& 31)) &&& 1) = 1
set_option maxHeartbeats 4000000 in
theorem met_X0_has {g : Zg} (hG : zG g) {G : zHG} (set : Int32) (k : Int32)  : ZM g yX0_has cX0_has 2 (some FieldType.boolean) 0 0 0 [.int set, .int k] G (zRet (some (.int (if x0_has set k then 1 else 0))) G) := by
  refine ZM_mk hG (by decide) (Nat.le_of_ble_eq_true rfl) ?_
  intro X hX hname hQ
  show ZW g X 0 0 G 0 [(0, .int set), (1, .int k)] []
  refine z_iload_n hX dX0_has_0 1 rfl (i := 0) rfl 0 rfl ?_
  refine z_iload_n hX dX0_has_1 2 rfl (i := 1) rfl 1 rfl ?_
  refine z_ishr hX dX0_has_2 3 rfl (w := set >>> (k &&& 31)) rfl ?_
  refine z_iconst hX dX0_has_3 4 rfl zki_1 ?_
  refine z_iand hX dX0_has_4 5 rfl (w := (set >>> (k &&& 31)) &&& 1) rfl ?_
  refine z_iconst hX dX0_has_5 6 rfl zki_1 ?_
  have J2 : ZW g X 0 0 G 14 [(0, .int set), (1, .int k)] [.int (if ((set >>> (k &&& 31)) &&& 1) = 1 then 1 else 0 : Int32)] := by
    exact z_zret hX hQ (Nat.zero_le _) (Nat.zero_le _) rfl (z_nb _) dX0_has_14 ⟨rfl, rfl⟩
  refine z_icmp_ne hX dX0_has_6 9 rfl (tgt := 13) (by decide) (fun c1 => ?_) (fun c1 => ?_)
  ·
    refine z_iconst hX dX0_has_13 14 rfl zki_0 ?_
    exact z_eqL rfl (by first | (simp only [if_neg c1] <;> rfl; done) | grind) J2
  ·
    refine z_iconst hX dX0_has_9 10 rfl zki_1 ?_
    refine z_goto hX dX0_has_10 (tgt := 14) (by decide) ?_
    exact z_eqL rfl (by first | (simp only [if_pos c1] <;> rfl; done) | grind) J2
set_option maxHeartbeats 4000000 in
theorem met_X1_isAsset {g : Zg} (hG : zG g) {G : zHG} {q t : Nat} {B : Nat → Nat → Nat} {N tk cp sh pr : Nat → Int32} {fc gn : Int32} (ht : zTo g G q t B N tk cp sh pr fc gn) {A H : Nat} {K : Nat → Nat} (hN : zWf N A H K) (a : Int32)  : ZM g yX1_isAsset cX1_isAsset 2 (some FieldType.boolean) 1 0 0 [.ref t, .int a] G (zRet (some (.int (if zin a A then 1 else 0 : Int32))) G) := by
  have hN2 := hN.2.1
  have hN4 := hN.2.2.2.1
  refine ZM_mk hG (by decide) (Nat.le_of_ble_eq_true rfl) ?_
  intro X hX hname hQ
  show ZW g X 0 0 G 0 [(0, .ref t), (1, .int a)] []
  refine z_iload_n hX dX1_isAsset_0 1 rfl (i := 1) rfl 1 rfl ?_
  refine z_i2l hX dX1_isAsset_1 2 rfl (w := (a).toInt64) (by first | rfl | decide) ?_
  refine z_lconst hX dX1_isAsset_2 3 rfl (w := 0) rfl ?_
  refine z_aload_n hX dX1_isAsset_3 4 rfl (i := 0) rfl 0 rfl ?_
  refine z_getf hX fX1_70 ht.o dX1_isAsset_4 7 rfl (x := .int (nI A)) (congrArg (fun z => some (Value.int z)) hN.1) ?_
  refine z_iconst hX dX1_isAsset_7 8 rfl zki_1 ?_
  refine z_isub hX dX1_isAsset_8 9 rfl (w := (nI A) - 1) rfl ?_
  refine z_i2l hX dX1_isAsset_9 10 rfl (w := ((nI A) - 1).toInt64) (by first | rfl | decide) ?_
  refine z_eqL (L' := [(0, .ref t), (1, .int a)]) (st' := [.long (((nI A) - 1).toInt64), .long ((0 : Int32).toInt64), .long ((a).toInt64)]) rfl (by rfl) ?_
  refine z_callSNp hX cwX1_87 (w := .int (if zin a A then 1 else 0 : Int32)) (met_X0_inz hG a ((nI A) - 1) A (nI_m1 (by omega))) dX1_isAsset_10 13 rfl rfl rfl (Nat.le_of_ble_eq_true rfl) (by decide) ⟨Nat.zero_le _, Nat.zero_le _⟩ ?_
  exact z_zret hX hQ (Nat.zero_le _) (Nat.zero_le _) rfl (z_nb _) dX1_isAsset_13 ⟨rfl, rfl⟩
set_option maxHeartbeats 4000000 in
theorem met_X1_isHouse {g : Zg} (hG : zG g) {G : zHG} {q t : Nat} {B : Nat → Nat → Nat} {N tk cp sh pr : Nat → Int32} {fc gn : Int32} (ht : zTo g G q t B N tk cp sh pr fc gn) {A H : Nat} {K : Nat → Nat} (hN : zWf N A H K) (h : Int32)  : ZM g yX1_isHouse cX1_isHouse 2 (some FieldType.boolean) 1 0 0 [.ref t, .int h] G (zRet (some (.int (if zin h H then 1 else 0 : Int32))) G) := by
  have hN2 := hN.2.1
  have hN4 := hN.2.2.2.1
  refine ZM_mk hG (by decide) (Nat.le_of_ble_eq_true rfl) ?_
  intro X hX hname hQ
  show ZW g X 0 0 G 0 [(0, .ref t), (1, .int h)] []
  refine z_iload_n hX dX1_isHouse_0 1 rfl (i := 1) rfl 1 rfl ?_
  refine z_i2l hX dX1_isHouse_1 2 rfl (w := (h).toInt64) (by first | rfl | decide) ?_
  refine z_lconst hX dX1_isHouse_2 3 rfl (w := 0) rfl ?_
  refine z_aload_n hX dX1_isHouse_3 4 rfl (i := 0) rfl 0 rfl ?_
  refine z_getf hX fX1_74 ht.o dX1_isHouse_4 7 rfl (x := .int (nI H)) (congrArg (fun z => some (Value.int z)) hN.2.2.1) ?_
  refine z_iconst hX dX1_isHouse_7 8 rfl zki_1 ?_
  refine z_isub hX dX1_isHouse_8 9 rfl (w := (nI H) - 1) rfl ?_
  refine z_i2l hX dX1_isHouse_9 10 rfl (w := ((nI H) - 1).toInt64) (by first | rfl | decide) ?_
  refine z_eqL (L' := [(0, .ref t), (1, .int h)]) (st' := [.long (((nI H) - 1).toInt64), .long ((0 : Int32).toInt64), .long ((h).toInt64)]) rfl (by rfl) ?_
  refine z_callSNp hX cwX1_87 (w := .int (if zin h H then 1 else 0 : Int32)) (met_X0_inz hG h ((nI H) - 1) H (nI_m1 (by omega))) dX1_isHouse_10 13 rfl rfl rfl (Nat.le_of_ble_eq_true rfl) (by decide) ⟨Nat.zero_le _, Nat.zero_le _⟩ ?_
  exact z_zret hX hQ (Nat.zero_le _) (Nat.zero_le _) rfl (z_nb _) dX1_isHouse_13 ⟨rfl, rfl⟩
def x1_held_l14 (N : Nat → Int32) (a : Nat) (ini : Int32) (k : Nat) : Int32 := zfold k (fun j1 cj1 => cj1 + (N (40 + (4 * j1) + a))) ini
theorem x1_held_l14_0 (N : Nat → Int32) (a : Nat) (ini : Int32) : x1_held_l14 N a ini 0 = ini := (zfold_0 _ _).trans (Eq.refl _)
def x1_held (N : Nat → Int32) (a : Nat) : Int32 := x1_held_l14 N a 0 6
set_option maxHeartbeats 4000000 in
theorem met_X1_held {g : Zg} (hG : zG g) {G : zHG} {q t : Nat} {B : Nat → Nat → Nat} {N tk cp sh pr : Nat → Int32} {fc gn : Int32} (ht : zTo g G q t B N tk cp sh pr fc gn) (a : Nat) (h_a : a < 4)  : ZM g yX1_held cX1_held 7 (some FieldType.int) 0 0 0 [.ref t, .int (nI a)] G (zRet (some (.int (x1_held N a))) G) := by
  unfold x1_held
  refine ZM_mk hG (by decide) (Nat.le_of_ble_eq_true rfl) ?_
  intro X hX hname hQ
  show ZW g X 0 0 G 0 [(0, .ref t), (1, .int (nI a))] []
  refine z_iconst hX dX1_held_0 1 rfl zki_0 ?_
  refine z_istore_n hX dX1_held_1 2 rfl (i := 2) rfl (Nat.le_of_ble_eq_true rfl) rfl (L' := [(0, .ref t), (1, .int (nI a)), (2, .int 0)]) rfl ?_
  refine z_aload_n hX dX1_held_2 3 rfl (i := 0) rfl 0 rfl ?_
  refine z_getf hX fX1_19 ht.o dX1_held_3 6 rfl (x := .ref (B 3 0)) rfl ?_
  refine z_astore_n hX dX1_held_6 7 rfl (i := 3) rfl (Nat.le_of_ble_eq_true rfl) rfl (L' := [(0, .ref t), (1, .int (nI a)), (2, .int 0), (3, .ref (B 3 0))]) rfl ?_
  refine z_aload_n hX dX1_held_7 8 rfl (i := 3) rfl 3 rfl ?_
  refine z_alenR hX 2 rfl ht.h0 dX1_held_8 9 rfl ?_
  refine z_istore hX dX1_held_9 11 rfl (Nat.le_of_ble_eq_true rfl) rfl (L' := [(0, .ref t), (1, .int (nI a)), (2, .int 0), (3, .ref (B 3 0)), (4, .int (nI 6))]) rfl ?_
  refine z_iconst hX dX1_held_11 12 rfl zki_0 ?_
  refine z_istore hX dX1_held_12 14 rfl (Nat.le_of_ble_eq_true rfl) rfl (L' := [(0, .ref t), (1, .int (nI a)), (2, .int 0), (3, .ref (B 3 0)), (4, .int (nI 6)), (5, .int 0)]) rfl ?_
  have E2 : ZW g X 0 0 G 40 [(0, .ref t), (1, .int (nI a)), (2, .int (x1_held_l14 N a 0 6)), (3, .ref (B 3 0)), (4, .int (nI 6)), (5, .int (nI 6))] [] := by
    refine z_iload_n hX dX1_held_40 41 rfl (i := 2) rfl 2 rfl ?_
    exact z_iret hX hQ (Nat.zero_le _) (Nat.zero_le _) rfl dX1_held_41 ⟨rfl, rfl⟩
  have Lp3 : ∀ k j1 : Nat, j1 + k = 6 → ZW g X 0 0 G 14 [(0, .ref t), (1, .int (nI a)), (2, .int (x1_held_l14 N a 0 j1)), (3, .ref (B 3 0)), (4, .int (nI 6)), (5, .int (nI j1))] [] := by
    intro k
    induction k with
    | zero =>
      intro j1 hj1
      rw [show j1 = 6 from by omega]
      refine z_iload hX dX1_held_14 16 rfl 5 rfl ?_
      refine z_iload hX dX1_held_16 18 rfl 4 rfl ?_
      refine z_icmp_geN hX 6 6 (by omega) (by omega) dX1_held_18 21 rfl (tgt := 40) (by decide) (fun c4 => ?_) (fun c4 => ?_)
      · exact E2
      · exact absurd c4 (by omega)
    | succ k ih =>
      intro j1 hj1
      refine z_iload hX dX1_held_14 16 rfl 5 rfl ?_
      refine z_iload hX dX1_held_16 18 rfl 4 rfl ?_
      refine z_icmp_geN hX j1 6 (by omega) (by omega) dX1_held_18 21 rfl (tgt := 40) (by decide) (fun c5 => ?_) (fun c5 => ?_)
      · exact absurd c5 (by omega)
      ·
        refine z_aload_n hX dX1_held_21 22 rfl (i := 3) rfl 3 rfl ?_
        refine z_iload hX dX1_held_22 24 rfl 5 rfl ?_
        refine z_aaldF hX 2 rfl rfl ht.h0 (j := j1) (by omega) (by decide) rfl dX1_held_24 25 rfl ?_
        refine z_astore hX dX1_held_25 27 rfl (Nat.le_of_ble_eq_true rfl) rfl (L' := [(0, .ref t), (1, .int (nI a)), (2, .int (x1_held_l14 N a 0 j1)), (3, .ref (B 3 0)), (4, .int (nI 6)), (5, .int (nI j1)), (6, .ref (B 13 j1))]) rfl ?_
        refine z_iload_n hX dX1_held_27 28 rfl (i := 2) rfl 2 rfl ?_
        refine z_aload hX dX1_held_28 30 rfl 6 rfl ?_
        refine z_iload_n hX dX1_held_30 31 rfl (i := 1) rfl 1 rfl ?_
        refine z_ialdF hX (ht.fh j1 (by omega)) (j := a) (by omega) (by decide) dX1_held_31 32 rfl (w := N (40 + (4 * j1) + a)) rfl ?_
        refine z_iadd hX dX1_held_32 33 rfl (w := (x1_held_l14 N a 0 j1) + (N (40 + (4 * j1) + a))) rfl ?_
        refine z_istore_n hX dX1_held_33 34 rfl (i := 2) rfl (Nat.le_of_ble_eq_true rfl) rfl (L' := [(0, .ref t), (1, .int (nI a)), (2, .int ((x1_held_l14 N a 0 j1) + (N (40 + (4 * j1) + a)))), (3, .ref (B 3 0)), (4, .int (nI 6)), (5, .int (nI j1)), (6, .ref (B 13 j1))]) rfl ?_
        refine z_iinc hX dX1_held_34 37 rfl 5 rfl (w := nI (j1 + 1)) (nI_1 j1) (Nat.le_of_ble_eq_true rfl) rfl (L' := [(0, .ref t), (1, .int (nI a)), (2, .int ((x1_held_l14 N a 0 j1) + (N (40 + (4 * j1) + a)))), (3, .ref (B 3 0)), (4, .int (nI 6)), (5, .int (nI (j1 + 1))), (6, .ref (B 13 j1))]) rfl ?_
        refine z_goto hX dX1_held_37 (tgt := 14) (by decide) ?_
        refine z_sub [0, 1, 2, 3, 4, 5] rfl ?_
        exact ih (j1 + 1) (by omega)
  exact Lp3 6 0 (by omega)
def x1_heldAll_l4 (N : Nat → Int32) (ini : Int32) (k : Nat) : Int32 := zfold k (fun j1 cj1 => cj1 + (x1_held N j1)) ini
theorem x1_heldAll_l4_0 (N : Nat → Int32) (ini : Int32) : x1_heldAll_l4 N ini 0 = ini := (zfold_0 _ _).trans (Eq.refl _)
def x1_heldAll (N : Nat → Int32) (A : Nat) : Int32 := x1_heldAll_l4 N 0 A
set_option maxHeartbeats 4000000 in
theorem met_X1_heldAll {g : Zg} (hG : zG g) {G : zHG} {q t : Nat} {B : Nat → Nat → Nat} {N tk cp sh pr : Nat → Int32} {fc gn : Int32} (ht : zTo g G q t B N tk cp sh pr fc gn) {A H : Nat} {K : Nat → Nat} (hN : zWf N A H K)  : ZM g yX1_heldAll cX1_heldAll 3 (some FieldType.int) 1 0 0 [.ref t] G (zRet (some (.int (x1_heldAll N A))) G) := by
  unfold x1_heldAll
  have hN2 := hN.2.1
  have hN4 := hN.2.2.2.1
  refine ZM_mk hG (by decide) (Nat.le_of_ble_eq_true rfl) ?_
  intro X hX hname hQ
  show ZW g X 0 0 G 0 [(0, .ref t)] []
  refine z_iconst hX dX1_heldAll_0 1 rfl zki_0 ?_
  refine z_istore_n hX dX1_heldAll_1 2 rfl (i := 1) rfl (Nat.le_of_ble_eq_true rfl) rfl (L' := [(0, .ref t), (1, .int 0)]) rfl ?_
  refine z_iconst hX dX1_heldAll_2 3 rfl zki_0 ?_
  refine z_istore_n hX dX1_heldAll_3 4 rfl (i := 2) rfl (Nat.le_of_ble_eq_true rfl) rfl (L' := [(0, .ref t), (1, .int 0), (2, .int 0)]) rfl ?_
  have E2 : ZW g X 0 0 G 26 [(0, .ref t), (1, .int (x1_heldAll_l4 N 0 A)), (2, .int (nI A))] [] := by
    refine z_iload_n hX dX1_heldAll_26 27 rfl (i := 1) rfl 1 rfl ?_
    exact z_iret hX hQ (Nat.zero_le _) (Nat.zero_le _) rfl dX1_heldAll_27 ⟨rfl, rfl⟩
  have Lp3 : ∀ k j1 : Nat, j1 + k = A → ZW g X 0 0 G 4 [(0, .ref t), (1, .int (x1_heldAll_l4 N 0 j1)), (2, .int (nI j1))] [] := by
    intro k
    induction k with
    | zero =>
      intro j1 hj1
      rw [show j1 = A from by omega]
      refine z_iload_n hX dX1_heldAll_4 5 rfl (i := 2) rfl 2 rfl ?_
      refine z_aload_n hX dX1_heldAll_5 6 rfl (i := 0) rfl 0 rfl ?_
      refine z_getf hX fX1_70 ht.o dX1_heldAll_6 9 rfl (x := .int (nI A)) (congrArg (fun z => some (Value.int z)) hN.1) ?_
      refine z_icmp_geN hX A A (by omega) (by omega) dX1_heldAll_9 12 rfl (tgt := 26) (by decide) (fun c4 => ?_) (fun c4 => ?_)
      · exact E2
      · exact absurd c4 (by omega)
    | succ k ih =>
      intro j1 hj1
      refine z_iload_n hX dX1_heldAll_4 5 rfl (i := 2) rfl 2 rfl ?_
      refine z_aload_n hX dX1_heldAll_5 6 rfl (i := 0) rfl 0 rfl ?_
      refine z_getf hX fX1_70 ht.o dX1_heldAll_6 9 rfl (x := .int (nI A)) (congrArg (fun z => some (Value.int z)) hN.1) ?_
      refine z_icmp_geN hX j1 A (by omega) (by omega) dX1_heldAll_9 12 rfl (tgt := 26) (by decide) (fun c5 => ?_) (fun c5 => ?_)
      · exact absurd c5 (by omega)
      ·
        refine z_iload_n hX dX1_heldAll_12 13 rfl (i := 1) rfl 1 rfl ?_
        refine z_aload_n hX dX1_heldAll_13 14 rfl (i := 0) rfl 0 rfl ?_
        refine z_iload_n hX dX1_heldAll_14 15 rfl (i := 2) rfl 2 rfl ?_
        refine z_callVp hX cwX1_91 (w := .int (x1_held N j1)) (met_X1_held hG ht j1 (by omega)) ht.o rfl rfl dX1_heldAll_15 18 rfl rfl rfl (Nat.le_of_ble_eq_true rfl) (by decide) ⟨Nat.zero_le _, Nat.zero_le _⟩ ?_
        refine z_iadd hX dX1_heldAll_18 19 rfl (w := (x1_heldAll_l4 N 0 j1) + (x1_held N j1)) rfl ?_
        refine z_istore_n hX dX1_heldAll_19 20 rfl (i := 1) rfl (Nat.le_of_ble_eq_true rfl) rfl (L' := [(0, .ref t), (1, .int ((x1_heldAll_l4 N 0 j1) + (x1_held N j1))), (2, .int (nI j1))]) rfl ?_
        refine z_iinc hX dX1_heldAll_20 23 rfl 2 rfl (w := nI (j1 + 1)) (nI_1 j1) (Nat.le_of_ble_eq_true rfl) rfl (L' := [(0, .ref t), (1, .int ((x1_heldAll_l4 N 0 j1) + (x1_held N j1))), (2, .int (nI (j1 + 1)))]) rfl ?_
        refine z_goto hX dX1_heldAll_23 (tgt := 4) (by decide) ?_
        exact ih (j1 + 1) (by omega)
  exact Lp3 A 0 (by omega)
def x1_pieces_l16 (N : Nat → Int32) (h : Nat) (ini : Int32) (k : Nat) : Int32 := zfold k (fun j1 cj1 => cj1 + (N (40 + (4 * h) + j1))) ini
theorem x1_pieces_l16_0 (N : Nat → Int32) (h : Nat) (ini : Int32) : x1_pieces_l16 N h ini 0 = ini := (zfold_0 _ _).trans (Eq.refl _)
def x1_pieces (N : Nat → Int32) (h : Nat) : Int32 := x1_pieces_l16 N h 0 4
set_option maxHeartbeats 4000000 in
theorem met_X1_pieces {g : Zg} (hG : zG g) {G : zHG} {q t : Nat} {B : Nat → Nat → Nat} {N tk cp sh pr : Nat → Int32} {fc gn : Int32} (ht : zTo g G q t B N tk cp sh pr fc gn) (h : Nat) (h_h : h < 6)  : ZM g yX1_pieces cX1_pieces 7 (some FieldType.int) 0 0 0 [.ref t, .int (nI h)] G (zRet (some (.int (x1_pieces N h))) G) := by
  unfold x1_pieces
  refine ZM_mk hG (by decide) (Nat.le_of_ble_eq_true rfl) ?_
  intro X hX hname hQ
  show ZW g X 0 0 G 0 [(0, .ref t), (1, .int (nI h))] []
  refine z_iconst hX dX1_pieces_0 1 rfl zki_0 ?_
  refine z_istore_n hX dX1_pieces_1 2 rfl (i := 2) rfl (Nat.le_of_ble_eq_true rfl) rfl (L' := [(0, .ref t), (1, .int (nI h)), (2, .int 0)]) rfl ?_
  refine z_aload_n hX dX1_pieces_2 3 rfl (i := 0) rfl 0 rfl ?_
  refine z_getf hX fX1_19 ht.o dX1_pieces_3 6 rfl (x := .ref (B 3 0)) rfl ?_
  refine z_iload_n hX dX1_pieces_6 7 rfl (i := 1) rfl 1 rfl ?_
  refine z_aaldF hX 2 rfl rfl ht.h0 (j := h) (by omega) (by decide) rfl dX1_pieces_7 8 rfl ?_
  refine z_astore_n hX dX1_pieces_8 9 rfl (i := 3) rfl (Nat.le_of_ble_eq_true rfl) rfl (L' := [(0, .ref t), (1, .int (nI h)), (2, .int 0), (3, .ref (B 13 h))]) rfl ?_
  refine z_aload_n hX dX1_pieces_9 10 rfl (i := 3) rfl 3 rfl ?_
  refine z_alenF hX (ht.fh h (by omega)) dX1_pieces_10 11 rfl ?_
  refine z_istore hX dX1_pieces_11 13 rfl (Nat.le_of_ble_eq_true rfl) rfl (L' := [(0, .ref t), (1, .int (nI h)), (2, .int 0), (3, .ref (B 13 h)), (4, .int (nI 4))]) rfl ?_
  refine z_iconst hX dX1_pieces_13 14 rfl zki_0 ?_
  refine z_istore hX dX1_pieces_14 16 rfl (Nat.le_of_ble_eq_true rfl) rfl (L' := [(0, .ref t), (1, .int (nI h)), (2, .int 0), (3, .ref (B 13 h)), (4, .int (nI 4)), (5, .int 0)]) rfl ?_
  have E2 : ZW g X 0 0 G 40 [(0, .ref t), (1, .int (nI h)), (2, .int (x1_pieces_l16 N h 0 4)), (3, .ref (B 13 h)), (4, .int (nI 4)), (5, .int (nI 4))] [] := by
    refine z_iload_n hX dX1_pieces_40 41 rfl (i := 2) rfl 2 rfl ?_
    exact z_iret hX hQ (Nat.zero_le _) (Nat.zero_le _) rfl dX1_pieces_41 ⟨rfl, rfl⟩
  have Lp3 : ∀ k j1 : Nat, j1 + k = 4 → ZW g X 0 0 G 16 [(0, .ref t), (1, .int (nI h)), (2, .int (x1_pieces_l16 N h 0 j1)), (3, .ref (B 13 h)), (4, .int (nI 4)), (5, .int (nI j1))] [] := by
    intro k
    induction k with
    | zero =>
      intro j1 hj1
      rw [show j1 = 4 from by omega]
      refine z_iload hX dX1_pieces_16 18 rfl 5 rfl ?_
      refine z_iload hX dX1_pieces_18 20 rfl 4 rfl ?_
      refine z_icmp_geN hX 4 4 (by omega) (by omega) dX1_pieces_20 23 rfl (tgt := 40) (by decide) (fun c4 => ?_) (fun c4 => ?_)
      · exact E2
      · exact absurd c4 (by omega)
    | succ k ih =>
      intro j1 hj1
      refine z_iload hX dX1_pieces_16 18 rfl 5 rfl ?_
      refine z_iload hX dX1_pieces_18 20 rfl 4 rfl ?_
      refine z_icmp_geN hX j1 4 (by omega) (by omega) dX1_pieces_20 23 rfl (tgt := 40) (by decide) (fun c5 => ?_) (fun c5 => ?_)
      · exact absurd c5 (by omega)
      ·
        refine z_aload_n hX dX1_pieces_23 24 rfl (i := 3) rfl 3 rfl ?_
        refine z_iload hX dX1_pieces_24 26 rfl 5 rfl ?_
        refine z_ialdF hX (ht.fh h (by omega)) (j := j1) (by omega) (by decide) dX1_pieces_26 27 rfl (w := N (40 + (4 * h) + j1)) rfl ?_
        refine z_istore hX dX1_pieces_27 29 rfl (Nat.le_of_ble_eq_true rfl) rfl (L' := [(0, .ref t), (1, .int (nI h)), (2, .int (x1_pieces_l16 N h 0 j1)), (3, .ref (B 13 h)), (4, .int (nI 4)), (5, .int (nI j1)), (6, .int (N (40 + (4 * h) + j1)))]) rfl ?_
        refine z_iload_n hX dX1_pieces_29 30 rfl (i := 2) rfl 2 rfl ?_
        refine z_iload hX dX1_pieces_30 32 rfl 6 rfl ?_
        refine z_iadd hX dX1_pieces_32 33 rfl (w := (x1_pieces_l16 N h 0 j1) + (N (40 + (4 * h) + j1))) rfl ?_
        refine z_istore_n hX dX1_pieces_33 34 rfl (i := 2) rfl (Nat.le_of_ble_eq_true rfl) rfl (L' := [(0, .ref t), (1, .int (nI h)), (2, .int ((x1_pieces_l16 N h 0 j1) + (N (40 + (4 * h) + j1)))), (3, .ref (B 13 h)), (4, .int (nI 4)), (5, .int (nI j1)), (6, .int (N (40 + (4 * h) + j1)))]) rfl ?_
        refine z_iinc hX dX1_pieces_34 37 rfl 5 rfl (w := nI (j1 + 1)) (nI_1 j1) (Nat.le_of_ble_eq_true rfl) rfl (L' := [(0, .ref t), (1, .int (nI h)), (2, .int ((x1_pieces_l16 N h 0 j1) + (N (40 + (4 * h) + j1)))), (3, .ref (B 13 h)), (4, .int (nI 4)), (5, .int (nI (j1 + 1))), (6, .int (N (40 + (4 * h) + j1)))]) rfl ?_
        refine z_goto hX dX1_pieces_37 (tgt := 16) (by decide) ?_
        refine z_sub [0, 1, 2, 3, 4, 5] rfl ?_
        exact ih (j1 + 1) (by omega)
  exact Lp3 4 0 (by omega)
def x1_soldAll_l14 (s_sold : Nat → Int32) (ini : Int32) (k : Nat) : Int32 := zfold k (fun j1 cj1 => cj1 + (s_sold j1)) ini
theorem x1_soldAll_l14_0 (s_sold : Nat → Int32) (ini : Int32) : x1_soldAll_l14 s_sold ini 0 = ini := (zfold_0 _ _).trans (Eq.refl _)
def x1_soldAll (s_sold : Nat → Int32) : Int32 := x1_soldAll_l14 s_sold 0 4
set_option maxHeartbeats 4000000 in
theorem met_X1_soldAll {g : Zg} (hG : zG g) {G : zHG} {q t : Nat} {B : Nat → Nat → Nat} {N tk cp sh pr : Nat → Int32} {fc gn : Int32} {ks : Nat × Nat} {s : Nat} {bs : Nat} {s_sold : Nat → Int32} {s_fallen : Int32} (ht : zTo g G q t B N tk cp sh pr fc gn) (hs : zSt g G ks s bs s_sold s_fallen)  : ZM g yX1_soldAll cX1_soldAll 7 (some FieldType.int) 0 0 0 [.ref t, .ref s] G (zRet (some (.int (x1_soldAll s_sold))) G) := by
  unfold x1_soldAll
  refine ZM_mk hG (by decide) (Nat.le_of_ble_eq_true rfl) ?_
  intro X hX hname hQ
  show ZW g X 0 0 G 0 [(0, .ref t), (1, .ref s)] []
  refine z_iconst hX dX1_soldAll_0 1 rfl zki_0 ?_
  refine z_istore_n hX dX1_soldAll_1 2 rfl (i := 2) rfl (Nat.le_of_ble_eq_true rfl) rfl (L' := [(0, .ref t), (1, .ref s), (2, .int 0)]) rfl ?_
  refine z_aload_n hX dX1_soldAll_2 3 rfl (i := 1) rfl 1 rfl ?_
  refine z_getfN hX fX1_124 hs.o dX1_soldAll_3 6 rfl (x := .ref bs) rfl ?_
  refine z_astore_n hX dX1_soldAll_6 7 rfl (i := 3) rfl (Nat.le_of_ble_eq_true rfl) rfl (L' := [(0, .ref t), (1, .ref s), (2, .int 0), (3, .ref bs)]) rfl ?_
  refine z_aload_n hX dX1_soldAll_7 8 rfl (i := 3) rfl 3 rfl ?_
  refine z_alenF hX hs.2 dX1_soldAll_8 9 rfl ?_
  refine z_istore hX dX1_soldAll_9 11 rfl (Nat.le_of_ble_eq_true rfl) rfl (L' := [(0, .ref t), (1, .ref s), (2, .int 0), (3, .ref bs), (4, .int (nI 4))]) rfl ?_
  refine z_iconst hX dX1_soldAll_11 12 rfl zki_0 ?_
  refine z_istore hX dX1_soldAll_12 14 rfl (Nat.le_of_ble_eq_true rfl) rfl (L' := [(0, .ref t), (1, .ref s), (2, .int 0), (3, .ref bs), (4, .int (nI 4)), (5, .int 0)]) rfl ?_
  have E2 : ZW g X 0 0 G 38 [(0, .ref t), (1, .ref s), (2, .int (x1_soldAll_l14 s_sold 0 4)), (3, .ref bs), (4, .int (nI 4)), (5, .int (nI 4))] [] := by
    refine z_iload_n hX dX1_soldAll_38 39 rfl (i := 2) rfl 2 rfl ?_
    exact z_iret hX hQ (Nat.zero_le _) (Nat.zero_le _) rfl dX1_soldAll_39 ⟨rfl, rfl⟩
  have Lp3 : ∀ k j1 : Nat, j1 + k = 4 → ZW g X 0 0 G 14 [(0, .ref t), (1, .ref s), (2, .int (x1_soldAll_l14 s_sold 0 j1)), (3, .ref bs), (4, .int (nI 4)), (5, .int (nI j1))] [] := by
    intro k
    induction k with
    | zero =>
      intro j1 hj1
      rw [show j1 = 4 from by omega]
      refine z_iload hX dX1_soldAll_14 16 rfl 5 rfl ?_
      refine z_iload hX dX1_soldAll_16 18 rfl 4 rfl ?_
      refine z_icmp_geN hX 4 4 (by omega) (by omega) dX1_soldAll_18 21 rfl (tgt := 38) (by decide) (fun c4 => ?_) (fun c4 => ?_)
      · exact E2
      · exact absurd c4 (by omega)
    | succ k ih =>
      intro j1 hj1
      refine z_iload hX dX1_soldAll_14 16 rfl 5 rfl ?_
      refine z_iload hX dX1_soldAll_16 18 rfl 4 rfl ?_
      refine z_icmp_geN hX j1 4 (by omega) (by omega) dX1_soldAll_18 21 rfl (tgt := 38) (by decide) (fun c5 => ?_) (fun c5 => ?_)
      · exact absurd c5 (by omega)
      ·
        refine z_aload_n hX dX1_soldAll_21 22 rfl (i := 3) rfl 3 rfl ?_
        refine z_iload hX dX1_soldAll_22 24 rfl 5 rfl ?_
        refine z_ialdF hX hs.2 (j := j1) (by omega) (by decide) dX1_soldAll_24 25 rfl (w := s_sold j1) rfl ?_
        refine z_istore hX dX1_soldAll_25 27 rfl (Nat.le_of_ble_eq_true rfl) rfl (L' := [(0, .ref t), (1, .ref s), (2, .int (x1_soldAll_l14 s_sold 0 j1)), (3, .ref bs), (4, .int (nI 4)), (5, .int (nI j1)), (6, .int (s_sold j1))]) rfl ?_
        refine z_iload_n hX dX1_soldAll_27 28 rfl (i := 2) rfl 2 rfl ?_
        refine z_iload hX dX1_soldAll_28 30 rfl 6 rfl ?_
        refine z_iadd hX dX1_soldAll_30 31 rfl (w := (x1_soldAll_l14 s_sold 0 j1) + (s_sold j1)) rfl ?_
        refine z_istore_n hX dX1_soldAll_31 32 rfl (i := 2) rfl (Nat.le_of_ble_eq_true rfl) rfl (L' := [(0, .ref t), (1, .ref s), (2, .int ((x1_soldAll_l14 s_sold 0 j1) + (s_sold j1))), (3, .ref bs), (4, .int (nI 4)), (5, .int (nI j1)), (6, .int (s_sold j1))]) rfl ?_
        refine z_iinc hX dX1_soldAll_32 35 rfl 5 rfl (w := nI (j1 + 1)) (nI_1 j1) (Nat.le_of_ble_eq_true rfl) rfl (L' := [(0, .ref t), (1, .ref s), (2, .int ((x1_soldAll_l14 s_sold 0 j1) + (s_sold j1))), (3, .ref bs), (4, .int (nI 4)), (5, .int (nI (j1 + 1))), (6, .int (s_sold j1))]) rfl ?_
        refine z_goto hX dX1_soldAll_35 (tgt := 14) (by decide) ?_
        refine z_sub [0, 1, 2, 3, 4, 5] rfl ?_
        exact ih (j1 + 1) (by omega)
  exact Lp3 4 0 (by omega)
