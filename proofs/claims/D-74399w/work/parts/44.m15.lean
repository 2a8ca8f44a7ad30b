set_option maxRecDepth 100000
theorem zpk_un {f : Nat → Int32} {i j : Nat} {x : Int32} (h : ¬ j = i) : upd f i x j = f j := if_neg h
theorem zWf_upd {N : Nat → Int32} {A H : Nat} {K : Nat → Nat} {i : Nat} {v : Int32} (h : zWf N A H K) (h1 : 2 ≤ i) (h2 : i < 100) (h3 : ∀ k, k < 6 → ¬ i = 10 + 5 * k + 3) : zWf (upd N i v) A H K := by
  obtain ⟨a, b, c, d, e, f⟩ := h
  refine ⟨(zpk_un (by omega)).trans a, b, (zpk_un (by omega)).trans c, d, fun s hs => ⟨(zpk_un (by omega)).trans (e s hs).1, (e s hs).2⟩, fun k hk => ?_⟩
  have h4 := h3 k (by omega)
  rw [zpk_un (by omega)]
  exact f k hk
theorem zWf_ite {c : Prop} [Decidable c] {N1 N2 : Nat → Int32} {A H : Nat} {K : Nat → Nat} (h1 : zWf N1 A H K) (h2 : zWf N2 A H K) : zWf (if c then N1 else N2) A H K := by
  split
  · exact h1
  · exact h2
def x4_kept (U : Nat) : Nat := if U = 12 then 11 else U
theorem x4_kept_le {U : Nat} (h : U ≤ 12) : x4_kept U ≤ 11 := by unfold x4_kept; split <;> omega
theorem x4_kept_eq {U : Nat} {x : Int32} (h : x = nI U) : (if U = 12 then nI (U - 1) else x) = nI (x4_kept U) := by
  unfold x4_kept
  split
  · rename_i h2; rw [h2]
  · exact h
def x4_remembers_l11 (ini : Nat → Int32) (k : Nat) : Nat → Int32 := zfold k (fun j2 cj2 => upd cj2 j2 (cj2 (j2 + 139))) ini
theorem x4_remembers_l11_0 (ini : Nat → Int32) : x4_remembers_l11 ini 0 = ini := (zfold_0 _ _).trans (Eq.refl _)
def x4_remembers_l52 (m_now : Nat → Int32) (U : Nat) (ini : Nat → Int32) (k : Nat) : Nat → Int32 := zfold k (fun j3 cj3 => upd cj3 (139 * (x4_kept U) + j3) (m_now j3)) ini
theorem x4_remembers_l52_0 (m_now : Nat → Int32) (U : Nat) (ini : Nat → Int32) : x4_remembers_l52 m_now U ini 0 = ini := (zfold_0 _ _).trans (Eq.refl _)
def x4_remembers_undos (m_now : Nat → Int32) (m_undos : Nat → Int32) (U : Nat) : Nat → Int32 := x4_remembers_l52 (m_now) U (if U = 12 then x4_remembers_l11 (m_undos) 1529 else m_undos) 139
def x4_remembers_undoMany (U : Nat) : Int32 := nI (x4_kept U + 1)
set_option maxHeartbeats 4000000 in
theorem met_X4_remembers {g : Zg} (hG : zG g) {G0 : zHG} {o : Nat} {M : MT} (hM : zMo g G0 o M) {U : Nat} (hU : mt_undoMany M = nI U ∧ U ≤ 12)     : ZM g yX4_remembers cX4_remembers 2 none 1 0 0 [.ref o] G0 (fun r G' => r = none ∧ zMs g G0 G' o (ms_undoMany (ms_undos M (x4_remembers_undos (mt_now M) (mt_undos M) U)) (x4_remembers_undoMany U))) := by
  unfold x4_remembers_undos x4_remembers_undoMany
  have hU2 := hU.2
  refine ZM_mk hG (by decide) (Nat.le_of_ble_eq_true rfl) ?_
  intro X hX hname hQ
  obtain ⟨G, hGe⟩ : ∃ z, z = G0 := ⟨_, rfl⟩
  have hM : zMs g G0 G o M := by rw [hGe]; exact zMs.rf hM
  show ZW g X 0 0 G0 0 [(0, .ref o)] []
  rw [← hGe]
  refine z_aload_n hX dX4_remembers_0 1 rfl (i := 0) rfl 0 rfl ?_
  refine m_get_undoMany hX hM fX4_152 dX4_remembers_1 4 rfl (w := nI U) hU.1 ?_
  refine z_bipush hX dX4_remembers_4 6 rfl zkb_12 ?_
  have J2 : ∀ G : zHG, zMs g G0 G o (ms_undoMany (ms_undos M (if U = 12 then x4_remembers_l11 (mt_undos M) 1529 else mt_undos M)) (if U = 12 then nI (U - 1) else mt_undoMany M)) → ZW g X 0 0 G 50 [(0, .ref o)] [] := by
    intro G hM
    have hU3 := x4_kept_le hU2
    have hM : zMs g G0 G o (ms_undoMany (ms_undos M (if U = 12 then x4_remembers_l11 (mt_undos M) 1529 else mt_undos M)) (nI (x4_kept U))) := by rw [← x4_kept_eq hU.1]; exact hM
    refine z_iconst hX dX4_remembers_50 51 rfl zki_0 ?_
    refine z_istore_n hX dX4_remembers_51 52 rfl (i := 1) rfl (Nat.le_of_ble_eq_true rfl) rfl (L' := [(0, .ref o), (1, .int 0)]) rfl ?_
    have E4 : ∀ G : zHG, zMs g G0 G o (ms_undoMany (ms_undos M (x4_remembers_l52 (mt_now M) U (if U = 12 then x4_remembers_l11 (mt_undos M) 1529 else mt_undos M) 139)) (nI (x4_kept U))) → ZW g X 0 0 G 86 [(0, .ref o), (1, .int (nI 139))] [] := by
      intro G hM
      refine z_aload_n hX dX4_remembers_86 87 rfl (i := 0) rfl 0 rfl ?_
      refine z_dup hX dX4_remembers_87 88 rfl rfl ?_
      refine m_get_undoMany hX hM fX4_152 dX4_remembers_88 91 rfl (w := nI (x4_kept U)) (mgs_undoMany _ _) ?_
      refine z_iconst hX dX4_remembers_91 92 rfl zki_1 ?_
      refine z_iadd hX dX4_remembers_92 93 rfl (w := nI (x4_kept U + 1)) (nI_add (x4_kept U) 1) ?_
      refine m_put_undoMany hX hM fX4_152 dX4_remembers_93 96 rfl (fun G hM => ?_)
      have hM : zMs g G0 G o (ms_undoMany (ms_undos M (x4_remembers_l52 (mt_now M) U (if U = 12 then x4_remembers_l11 (mt_undos M) 1529 else mt_undos M) 139)) (nI (x4_kept U + 1))) := by simpa only [mc_undos_undoMany, mm_undos, mm_undoMany] using hM
      exact z_vret hX hQ (Nat.zero_le _) (Nat.zero_le _) rfl dX4_remembers_96 ⟨rfl, hM⟩
    have Lp5 : ∀ k j3 : Nat, j3 + k = 139 → ∀ G : zHG, zMs g G0 G o (ms_undoMany (ms_undos M (x4_remembers_l52 (mt_now M) U (if U = 12 then x4_remembers_l11 (mt_undos M) 1529 else mt_undos M) j3)) (nI (x4_kept U))) → ZW g X 0 0 G 52 [(0, .ref o), (1, .int (nI j3))] [] := by
      intro k
      induction k with
      | zero =>
        intro j3 hj3 G hM
        rw [show j3 = 139 from by omega] at hM ⊢
        refine z_iload_n hX dX4_remembers_52 53 rfl (i := 1) rfl 1 rfl ?_
        refine z_sipush hX dX4_remembers_53 56 rfl zks_139 ?_
        refine z_icmp_geN hX 139 139 (by omega) (by omega) dX4_remembers_56 59 rfl (tgt := 86) (by decide) (fun c6 => ?_) (fun c6 => ?_)
        · exact E4 _ hM
        · exact absurd c6 (by omega)
      | succ k ih =>
        intro j3 hj3 G hM
        refine z_iload_n hX dX4_remembers_52 53 rfl (i := 1) rfl 1 rfl ?_
        refine z_sipush hX dX4_remembers_53 56 rfl zks_139 ?_
        refine z_icmp_geN hX j3 139 (by omega) (by omega) dX4_remembers_56 59 rfl (tgt := 86) (by decide) (fun c7 => ?_) (fun c7 => ?_)
        · exact absurd c7 (by omega)
        ·
          refine z_aload_n hX dX4_remembers_59 60 rfl (i := 0) rfl 0 rfl ?_
          refine z_getf hX fX4_16 hM.1.o dX4_remembers_60 63 rfl (x := .ref (o + 3)) rfl ?_
          refine z_sipush hX dX4_remembers_63 66 rfl zks_139 ?_
          refine z_aload_n hX dX4_remembers_66 67 rfl (i := 0) rfl 0 rfl ?_
          refine m_get_undoMany hX hM fX4_152 dX4_remembers_67 70 rfl (w := nI (x4_kept U)) (mgs_undoMany _ _) ?_
          refine z_imul hX dX4_remembers_70 71 rfl (w := nI (139 * (x4_kept U))) (pk_mul 139 (x4_kept U)) ?_
          refine z_iload_n hX dX4_remembers_71 72 rfl (i := 1) rfl 1 rfl ?_
          refine z_iadd hX dX4_remembers_72 73 rfl (w := nI (139 * (x4_kept U) + j3)) (nI_add (139 * (x4_kept U)) j3) ?_
          refine z_aload_n hX dX4_remembers_73 74 rfl (i := 0) rfl 0 rfl ?_
          refine z_getf hX fX4_7 hM.1.o dX4_remembers_74 77 rfl (x := .ref (o + 1)) rfl ?_
          refine z_iload_n hX dX4_remembers_77 78 rfl (i := 1) rfl 1 rfl ?_
          refine m_ald_now hX hM j3 (by omega) dX4_remembers_78 79 rfl (w := mt_now M j3) (congrFun ((mg_now_undoMany _ _).trans (mg_now_undos _ _)) j3) ?_
          refine m_ast_undos hX hM (139 * (x4_kept U) + j3) (by omega) dX4_remembers_79 80 rfl (fun G hM => ?_)
          have hM : zMs g G0 G o (ms_undoMany (ms_undos M (upd (x4_remembers_l52 (mt_now M) U (if U = 12 then x4_remembers_l11 (mt_undos M) 1529 else mt_undos M) j3) (139 * (x4_kept U) + j3) (mt_now M j3))) (nI (x4_kept U))) := by simpa only [mg_undos_undoMany, mgs_undos, mc_undos_undoMany, mm_undos, mm_undoMany] using hM
          refine z_iinc hX dX4_remembers_80 83 rfl 1 rfl (w := nI (j3 + 1)) (nI_1 j3) (Nat.le_of_ble_eq_true rfl) rfl (L' := [(0, .ref o), (1, .int (nI (j3 + 1)))]) rfl ?_
          refine z_goto hX dX4_remembers_83 (tgt := 52) (by decide) ?_
          exact ih (j3 + 1) (by omega) _ hM
    have hM : zMs g G0 G o (ms_undoMany (ms_undos M (x4_remembers_l52 (mt_now M) U (if U = 12 then x4_remembers_l11 (mt_undos M) 1529 else mt_undos M) 0)) (nI (x4_kept U))) := by simpa only [x4_remembers_l52_0, me_undos, mc_undos_undoMany, mm_undos, mm_undoMany] using hM
    exact Lp5 139 0 (by omega) _ hM
  refine z_icmp_neN hX U 12 (by omega) (by omega) dX4_remembers_6 9 rfl (tgt := 50) (by decide) (fun c1 => ?_) (fun c1 => ?_)
  ·
    exact z_eqL rfl rfl (J2 _ (by first | (simpa only [if_neg c1, me_undos, me_undoMany] using hM) | (simpa only [if_neg c1, me2_undos, me2_undoMany, mg_undoMany_undos] using hM)))
  ·
    refine z_iconst hX dX4_remembers_9 10 rfl zki_0 ?_
    refine z_istore_n hX dX4_remembers_10 11 rfl (i := 1) rfl (Nat.le_of_ble_eq_true rfl) rfl (L' := [(0, .ref o), (1, .int 0)]) rfl ?_
    have E9 : ∀ G : zHG, zMs g G0 G o (ms_undos M (x4_remembers_l11 (mt_undos M) 1529)) → ZW g X 0 0 G 40 [(0, .ref o), (1, .int (nI 1529))] [] := by
      intro G hM
      refine z_aload_n hX dX4_remembers_40 41 rfl (i := 0) rfl 0 rfl ?_
      refine z_dup hX dX4_remembers_41 42 rfl rfl ?_
      refine m_get_undoMany hX hM fX4_152 dX4_remembers_42 45 rfl (w := nI U) ((mg_undoMany_undos _ _).trans hU.1) ?_
      refine z_iconst hX dX4_remembers_45 46 rfl zki_1 ?_
      refine z_isub hX dX4_remembers_46 47 rfl (w := nI (U - 1)) (pk_sub (a := U) (b := 1) (by omega)) ?_
      refine m_put_undoMany hX hM fX4_152 dX4_remembers_47 50 rfl (fun G hM => ?_)
      have hM : zMs g G0 G o (ms_undoMany (ms_undos M (x4_remembers_l11 (mt_undos M) 1529)) (nI (U - 1))) := hM
      refine z_sub [0] rfl ?_
      exact z_eqL rfl rfl (J2 _ (by first | (simpa only [if_pos c1, me_undos, me_undoMany] using hM) | (simpa only [if_pos c1, me2_undos, me2_undoMany, mg_undoMany_undos] using hM)))
    have Lp10 : ∀ k j8 : Nat, j8 + k = 1529 → ∀ G : zHG, zMs g G0 G o (ms_undos M (x4_remembers_l11 (mt_undos M) j8)) → ZW g X 0 0 G 11 [(0, .ref o), (1, .int (nI j8))] [] := by
      intro k
      induction k with
      | zero =>
        intro j8 hj8 G hM
        rw [show j8 = 1529 from by omega] at hM ⊢
        refine z_iload_n hX dX4_remembers_11 12 rfl (i := 1) rfl 1 rfl ?_
        refine z_sipush hX dX4_remembers_12 15 rfl zks_1529 ?_
        refine z_icmp_geN hX 1529 1529 (by omega) (by omega) dX4_remembers_15 18 rfl (tgt := 40) (by decide) (fun c11 => ?_) (fun c11 => ?_)
        · exact E9 _ hM
        · exact absurd c11 (by omega)
      | succ k ih =>
        intro j8 hj8 G hM
        refine z_iload_n hX dX4_remembers_11 12 rfl (i := 1) rfl 1 rfl ?_
        refine z_sipush hX dX4_remembers_12 15 rfl zks_1529 ?_
        refine z_icmp_geN hX j8 1529 (by omega) (by omega) dX4_remembers_15 18 rfl (tgt := 40) (by decide) (fun c12 => ?_) (fun c12 => ?_)
        · exact absurd c12 (by omega)
        ·
          refine z_aload_n hX dX4_remembers_18 19 rfl (i := 0) rfl 0 rfl ?_
          refine z_getf hX fX4_16 hM.1.o dX4_remembers_19 22 rfl (x := .ref (o + 3)) rfl ?_
          refine z_iload_n hX dX4_remembers_22 23 rfl (i := 1) rfl 1 rfl ?_
          refine z_aload_n hX dX4_remembers_23 24 rfl (i := 0) rfl 0 rfl ?_
          refine z_getf hX fX4_16 hM.1.o dX4_remembers_24 27 rfl (x := .ref (o + 3)) rfl ?_
          refine z_iload_n hX dX4_remembers_27 28 rfl (i := 1) rfl 1 rfl ?_
          refine z_sipush hX dX4_remembers_28 31 rfl zks_139 ?_
          refine z_iadd hX dX4_remembers_31 32 rfl (w := nI (j8 + 139)) (nI_add j8 139) ?_
          refine m_ald_undos hX hM (j8 + 139) (by omega) dX4_remembers_32 33 rfl (w := (x4_remembers_l11 (mt_undos M) j8) (j8 + 139)) (congrFun (mgs_undos _ _) (j8 + 139)) ?_
          refine m_ast_undos hX hM j8 (by omega) dX4_remembers_33 34 rfl (fun G hM => ?_)
          have hM : zMs g G0 G o (ms_undos M (upd (x4_remembers_l11 (mt_undos M) j8) j8 ((x4_remembers_l11 (mt_undos M) j8) (j8 + 139)))) := by simpa only [mgs_undos, mm_undos] using hM
          refine z_iinc hX dX4_remembers_34 37 rfl 1 rfl (w := nI (j8 + 1)) (nI_1 j8) (Nat.le_of_ble_eq_true rfl) rfl (L' := [(0, .ref o), (1, .int (nI (j8 + 1)))]) rfl ?_
          refine z_goto hX dX4_remembers_37 (tgt := 11) (by decide) ?_
          exact ih (j8 + 1) (by omega) _ hM
    have hM : zMs g G0 G o (ms_undos M (x4_remembers_l11 (mt_undos M) 0)) := by simpa only [x4_remembers_l11_0, me_undos, mm_undos] using hM
    exact Lp10 1529 0 (by omega) _ hM
def x4_puts (m_now : Nat → Int32) (place : Nat) (v : Int32) : Int32 := m_now place
def x4_puts_now (m_now : Nat → Int32) (place : Nat) (v : Int32) : Nat → Int32 := upd (m_now) place v
def x4_puts_undos (m_now : Nat → Int32) (m_undos : Nat → Int32) (U : Nat) (place : Nat) (v : Int32) : Nat → Int32 := x4_remembers_undos (m_now) (m_undos) U
def x4_puts_undoMany (U : Nat) (place : Nat) (v : Int32) : Int32 := x4_remembers_undoMany U
set_option maxHeartbeats 4000000 in
theorem met_X4_puts {g : Zg} (hG : zG g) {G0 : zHG} {o : Nat} {M : MT} (hM : zMo g G0 o M) {U : Nat} (hU : mt_undoMany M = nI U ∧ U ≤ 12) (place : Nat) (v : Int32)  (h_place : place < 139)  : ZM g yX4_puts cX4_puts 4 (some FieldType.int) 2 0 0 [.ref o, .int (nI place), .int v] G0 (fun r G' => r = some (.int (x4_puts (mt_now M) place v)) ∧ zMs g G0 G' o (ms_undoMany (ms_undos (ms_now M (x4_puts_now (mt_now M) place v)) (x4_puts_undos (mt_now M) (mt_undos M) U place v)) (x4_puts_undoMany U place v))) := by
  unfold x4_puts x4_puts_now x4_puts_undos x4_puts_undoMany
  have hU2 := hU.2
  refine ZM_mk hG (by decide) (Nat.le_of_ble_eq_true rfl) ?_
  intro X hX hname hQ
  obtain ⟨G, hGe⟩ : ∃ z, z = G0 := ⟨_, rfl⟩
  have hM : zMs g G0 G o M := by rw [hGe]; exact zMs.rf hM
  show ZW g X 0 0 G0 0 [(0, .ref o), (1, .int (nI place)), (2, .int v)] []
  rw [← hGe]
  refine z_aload_n hX dX4_puts_0 1 rfl (i := 0) rfl 0 rfl ?_
  refine z_callVv hX cwX4_234 (met_X4_remembers hG hM.1 hU) hM.1.o rfl rfl dX4_puts_1 4 rfl rfl rfl (Nat.le_of_ble_eq_true rfl) (by decide) ⟨Nat.zero_le _, Nat.zero_le _⟩ (fun G hhM => ?_)
  have hM := zMs.tr hM hhM
  have hM : zMs g G0 G o (ms_undoMany (ms_undos M (x4_remembers_undos (mt_now M) (mt_undos M) U)) (x4_remembers_undoMany U)) := hM
  refine z_aload_n hX dX4_puts_4 5 rfl (i := 0) rfl 0 rfl ?_
  refine z_getf hX fX4_7 hM.1.o dX4_puts_5 8 rfl (x := .ref (o + 1)) rfl ?_
  refine z_iload_n hX dX4_puts_8 9 rfl (i := 1) rfl 1 rfl ?_
  refine m_ald_now hX hM place (by omega) dX4_puts_9 10 rfl (w := mt_now M place) (congrFun ((mg_now_undoMany _ _).trans (mg_now_undos _ _)) place) ?_
  refine z_istore_n hX dX4_puts_10 11 rfl (i := 3) rfl (Nat.le_of_ble_eq_true rfl) rfl (L' := [(0, .ref o), (1, .int (nI place)), (2, .int v), (3, .int (mt_now M place))]) rfl ?_
  refine z_aload_n hX dX4_puts_11 12 rfl (i := 0) rfl 0 rfl ?_
  refine z_getf hX fX4_7 hM.1.o dX4_puts_12 15 rfl (x := .ref (o + 1)) rfl ?_
  refine z_iload_n hX dX4_puts_15 16 rfl (i := 1) rfl 1 rfl ?_
  refine z_iload_n hX dX4_puts_16 17 rfl (i := 2) rfl 2 rfl ?_
  refine m_ast_now hX hM place (by omega) dX4_puts_17 18 rfl (fun G hM => ?_)
  have hM : zMs g G0 G o (ms_undoMany (ms_undos (ms_now M (upd (mt_now M) place v)) (x4_remembers_undos (mt_now M) (mt_undos M) U)) (x4_remembers_undoMany U)) := by simpa only [mg_now_undos, mg_now_undoMany, mc_now_undos, mc_now_undoMany, mm_now, mc_undos_undoMany, mm_undos, mm_undoMany] using hM
  refine z_iload_n hX dX4_puts_18 19 rfl (i := 3) rfl 3 rfl ?_
  exact z_iret hX hQ (Nat.zero_le _) (Nat.zero_le _) rfl dX4_puts_19 ⟨rfl, hM⟩
def x4_asset (A : Nat) (base : Int32) (slope : Int32) : Int32 := (if 1 ≤ base ∧ base ≤ 200 then (if zin slope 10 then (if A = 4 then (-1) else (nI (A + 1)) - 1 : Int32) else (-1) : Int32) else (-1) : Int32)
def x4_asset_now (m_now : Nat → Int32) (A : Nat) (base : Int32) (slope : Int32) : Nat → Int32 := if 1 ≤ base ∧ base ≤ 200 then if zin slope 10 then if A = 4 then m_now else upd (upd (upd (m_now) (2 + A) base) (6 + A) (nI slope.toNatClampNeg)) 0 (nI (A + 1)) else m_now else m_now
def x4_asset_undos (m_now : Nat → Int32) (m_undos : Nat → Int32) (A : Nat) (U : Nat) (base : Int32) (slope : Int32) : Nat → Int32 := if 1 ≤ base ∧ base ≤ 200 then if zin slope 10 then if A = 4 then m_undos else x4_remembers_undos (m_now) (m_undos) U else m_undos else m_undos
def x4_asset_undoMany (m_undoMany : Int32) (A : Nat) (U : Nat) (base : Int32) (slope : Int32) : Int32 := if 1 ≤ base ∧ base ≤ 200 then if zin slope 10 then if A = 4 then m_undoMany else x4_remembers_undoMany U else m_undoMany else m_undoMany
set_option maxHeartbeats 4000000 in
theorem met_X4_asset {g : Zg} (hG : zG g) {G0 : zHG} {o : Nat} {M : MT} (hM : zMo g G0 o M) {A H : Nat} {K : Nat → Nat} (hN : zWf (mt_now M) A H K) {U : Nat} (hU : mt_undoMany M = nI U ∧ U ≤ 12) (base : Int32) (slope : Int32)    : ZM g yX4_asset cX4_asset 3 (some FieldType.int) 2 0 0 [.ref o, .int base, .int slope] G0 (fun r G' => r = some (.int (x4_asset A base slope)) ∧ zMs g G0 G' o (ms_undoMany (ms_undos (ms_now M (x4_asset_now (mt_now M) A base slope)) (x4_asset_undos (mt_now M) (mt_undos M) A U base slope)) (x4_asset_undoMany (mt_undoMany M) A U base slope))) := by
  unfold x4_asset x4_asset_now x4_asset_undos x4_asset_undoMany
  have hU2 := hU.2
  have hN2 := hN.2.1
  have hN4 := hN.2.2.2.1
  refine ZM_mk hG (by decide) (Nat.le_of_ble_eq_true rfl) ?_
  intro X hX hname hQ
  obtain ⟨G, hGe⟩ : ∃ z, z = G0 := ⟨_, rfl⟩
  have hM : zMs g G0 G o M := by rw [hGe]; exact zMs.rf hM
  show ZW g X 0 0 G0 0 [(0, .ref o), (1, .int base), (2, .int slope)] []
  rw [← hGe]
  refine z_iload_n hX dX4_asset_0 1 rfl (i := 1) rfl 1 rfl ?_
  refine z_iconst hX dX4_asset_1 2 rfl zki_1 ?_
  refine z_sipush hX dX4_asset_2 5 rfl zks_200 ?_
  refine z_callSp hX cwX4_68 (w := .int (if 1 ≤ base ∧ base ≤ 200 then 1 else 0 : Int32)) (met_X4_isIn hG base 1 200) dX4_asset_5 8 rfl rfl rfl (Nat.le_of_ble_eq_true rfl) (by decide) ⟨Nat.zero_le _, Nat.zero_le _⟩ ?_
  refine z_if_eqP hX (1 ≤ base ∧ base ≤ 200) dX4_asset_8 11 rfl (tgt := 31) (by decide) (fun c1 => ?_) (fun c1 => ?_)
  ·
    refine z_iconst hX dX4_asset_31 32 rfl zki_m1 ?_
    exact z_iret hX hQ (Nat.zero_le _) (Nat.zero_le _) rfl dX4_asset_32 ⟨(by first | (simp only [if_neg c1] <;> rfl; done) | grind), (by first | (simpa only [if_neg c1, me_now, me_undos, me_undoMany] using hM) | (simpa only [if_neg c1, me2_now, me2_undos, me2_undoMany, mg_undos_now, mg_undoMany_now, mg_undoMany_undos] using hM))⟩
  ·
    refine z_iload_n hX dX4_asset_11 12 rfl (i := 2) rfl 2 rfl ?_
    refine z_iconst hX dX4_asset_12 13 rfl zki_0 ?_
    refine z_bipush hX dX4_asset_13 15 rfl zkb_9 ?_
    refine z_callSp hX cwX4_68 (w := .int (if zin slope 10 then 1 else 0 : Int32)) (met_X4_isInz hG slope 9 10 (by decide)) dX4_asset_15 18 rfl rfl rfl (Nat.le_of_ble_eq_true rfl) (by decide) ⟨Nat.zero_le _, Nat.zero_le _⟩ ?_
    refine z_if_eqP hX (zin slope 10) dX4_asset_18 21 rfl (tgt := 31) (by decide) (fun c2 => ?_) (fun c2 => ?_)
    ·
      refine z_iconst hX dX4_asset_31 32 rfl zki_m1 ?_
      exact z_iret hX hQ (Nat.zero_le _) (Nat.zero_le _) rfl dX4_asset_32 ⟨(by first | (simp only [if_pos c1, if_neg c2] <;> rfl; done) | grind), (by first | (simpa only [if_pos c1, if_neg c2, me_now, me_undos, me_undoMany] using hM) | (simpa only [if_pos c1, if_neg c2, me2_now, me2_undos, me2_undoMany, mg_undos_now, mg_undoMany_now, mg_undoMany_undos] using hM))⟩
    ·
      have e_slope := zin_eq c2
      have l_slope := zin_lt c2
      refine z_eqL (L' := [(0, .ref o), (1, .int base), (2, .int (nI slope.toNatClampNeg))]) (st' := []) (by rw [← e_slope]) (by first | rfl | rw [← e_slope]) ?_
      refine z_aload_n hX dX4_asset_21 22 rfl (i := 0) rfl 0 rfl ?_
      refine z_getf hX fX4_7 hM.1.o dX4_asset_22 25 rfl (x := .ref (o + 1)) rfl ?_
      refine z_iconst hX dX4_asset_25 26 rfl zki_0 ?_
      refine m_ald_now hX hM 0 (by omega) dX4_asset_26 27 rfl (w := nI A) hN.1 ?_
      refine z_iconst hX dX4_asset_27 28 rfl zki_4 ?_
      refine z_icmp_neN hX A 4 (by omega) (by omega) dX4_asset_28 31 rfl (tgt := 33) (by decide) (fun c3 => ?_) (fun c3 => ?_)
      ·
        refine z_aload_n hX dX4_asset_33 34 rfl (i := 0) rfl 0 rfl ?_
        refine z_callVv hX cwX4_234 (met_X4_remembers hG hM.1 hU) hM.1.o rfl rfl dX4_asset_34 37 rfl rfl rfl (Nat.le_of_ble_eq_true rfl) (by decide) ⟨Nat.zero_le _, Nat.zero_le _⟩ (fun G hhM => ?_)
        have hM := zMs.tr hM hhM
        have hM : zMs g G0 G o (ms_undoMany (ms_undos M (x4_remembers_undos (mt_now M) (mt_undos M) U)) (x4_remembers_undoMany U)) := hM
        refine z_aload_n hX dX4_asset_37 38 rfl (i := 0) rfl 0 rfl ?_
        refine z_getf hX fX4_7 hM.1.o dX4_asset_38 41 rfl (x := .ref (o + 1)) rfl ?_
        refine z_iconst hX dX4_asset_41 42 rfl zki_2 ?_
        refine z_aload_n hX dX4_asset_42 43 rfl (i := 0) rfl 0 rfl ?_
        refine z_getf hX fX4_7 hM.1.o dX4_asset_43 46 rfl (x := .ref (o + 1)) rfl ?_
        refine z_iconst hX dX4_asset_46 47 rfl zki_0 ?_
        refine m_ald_now hX hM 0 (by omega) dX4_asset_47 48 rfl (w := nI A) ((congrFun ((mg_now_undoMany _ _).trans (mg_now_undos _ _)) 0).trans hN.1) ?_
        refine z_iadd hX dX4_asset_48 49 rfl (w := nI (2 + A)) (nI_add 2 A) ?_
        refine z_iload_n hX dX4_asset_49 50 rfl (i := 1) rfl 1 rfl ?_
        refine m_ast_now hX hM (2 + A) (by omega) dX4_asset_50 51 rfl (fun G hM => ?_)
        have hM : zMs g G0 G o (ms_undoMany (ms_undos (ms_now M (upd (mt_now M) (2 + A) base)) (x4_remembers_undos (mt_now M) (mt_undos M) U)) (x4_remembers_undoMany U)) := by simpa only [mg_now_undos, mg_now_undoMany, mc_now_undos, mc_now_undoMany, mm_now, mc_undos_undoMany, mm_undos, mm_undoMany] using hM
        refine z_aload_n hX dX4_asset_51 52 rfl (i := 0) rfl 0 rfl ?_
        refine z_getf hX fX4_7 hM.1.o dX4_asset_52 55 rfl (x := .ref (o + 1)) rfl ?_
        refine z_bipush hX dX4_asset_55 57 rfl zkb_6 ?_
        refine z_aload_n hX dX4_asset_57 58 rfl (i := 0) rfl 0 rfl ?_
        refine z_getf hX fX4_7 hM.1.o dX4_asset_58 61 rfl (x := .ref (o + 1)) rfl ?_
        refine z_iconst hX dX4_asset_61 62 rfl zki_0 ?_
        refine m_ald_now hX hM 0 (by omega) dX4_asset_62 63 rfl (w := nI A) ((congrFun ((mg_now_undoMany _ _).trans ((mg_now_undos _ _).trans (mgs_now _ _))) 0).trans ((zpk_un (by omega)).trans hN.1)) ?_
        refine z_iadd hX dX4_asset_63 64 rfl (w := nI (6 + A)) (nI_add 6 A) ?_
        refine z_iload_n hX dX4_asset_64 65 rfl (i := 2) rfl 2 rfl ?_
        refine m_ast_now hX hM (6 + A) (by omega) dX4_asset_65 66 rfl (fun G hM => ?_)
        have hM : zMs g G0 G o (ms_undoMany (ms_undos (ms_now M (upd (upd (mt_now M) (2 + A) base) (6 + A) (nI slope.toNatClampNeg))) (x4_remembers_undos (mt_now M) (mt_undos M) U)) (x4_remembers_undoMany U)) := by simpa only [mg_now_undos, mg_now_undoMany, mgs_now, mc_now_undos, mc_now_undoMany, mm_now, mc_undos_undoMany, mm_undos, mm_undoMany] using hM
        refine z_aload_n hX dX4_asset_66 67 rfl (i := 0) rfl 0 rfl ?_
        refine z_getf hX fX4_7 hM.1.o dX4_asset_67 70 rfl (x := .ref (o + 1)) rfl ?_
        refine z_iconst hX dX4_asset_70 71 rfl zki_0 ?_
        refine z_dup2_11 hX dX4_asset_71 72 rfl rfl rfl ?_
        refine m_ald_now hX hM 0 (by omega) dX4_asset_72 73 rfl (w := nI A) ((congrFun ((mg_now_undoMany _ _).trans ((mg_now_undos _ _).trans (mgs_now _ _))) 0).trans ((zpk_un (by omega)).trans ((zpk_un (by omega)).trans hN.1))) ?_
        refine z_iconst hX dX4_asset_73 74 rfl zki_1 ?_
        refine z_iadd hX dX4_asset_74 75 rfl (w := nI (A + 1)) (nI_add A 1) ?_
        refine m_ast_now hX hM 0 (by omega) dX4_asset_75 76 rfl (fun G hM => ?_)
        have hM : zMs g G0 G o (ms_undoMany (ms_undos (ms_now M (upd (upd (upd (mt_now M) (2 + A) base) (6 + A) (nI slope.toNatClampNeg)) 0 (nI (A + 1)))) (x4_remembers_undos (mt_now M) (mt_undos M) U)) (x4_remembers_undoMany U)) := by simpa only [mg_now_undos, mg_now_undoMany, mgs_now, mc_now_undos, mc_now_undoMany, mm_now, mc_undos_undoMany, mm_undos, mm_undoMany] using hM
        refine z_aload_n hX dX4_asset_76 77 rfl (i := 0) rfl 0 rfl ?_
        refine z_getf hX fX4_7 hM.1.o dX4_asset_77 80 rfl (x := .ref (o + 1)) rfl ?_
        refine z_iconst hX dX4_asset_80 81 rfl zki_0 ?_
        refine m_ald_now hX hM 0 (by omega) dX4_asset_81 82 rfl (w := (nI (A + 1))) ((congrFun ((mg_now_undoMany _ _).trans ((mg_now_undos _ _).trans (mgs_now _ _))) 0).trans pk_us) ?_
        refine z_iconst hX dX4_asset_82 83 rfl zki_1 ?_
        refine z_isub hX dX4_asset_83 84 rfl (w := (nI (A + 1)) - 1) rfl ?_
        exact z_iret hX hQ (Nat.zero_le _) (Nat.zero_le _) rfl dX4_asset_84 ⟨(by first | (simp only [if_pos c1, if_pos c2, if_neg c3] <;> rfl; done) | grind), (by first | (simpa only [if_pos c1, if_pos c2, if_neg c3, me_now, me_undos, me_undoMany] using hM) | (simpa only [if_pos c1, if_pos c2, if_neg c3, me2_now, me2_undos, me2_undoMany, mg_undos_now, mg_undoMany_now, mg_undoMany_undos] using hM))⟩
      ·
        refine z_iconst hX dX4_asset_31 32 rfl zki_m1 ?_
        exact z_iret hX hQ (Nat.zero_le _) (Nat.zero_le _) rfl dX4_asset_32 ⟨(by first | (simp only [if_pos c1, if_pos c2, if_pos c3] <;> rfl; done) | grind), (by first | (simpa only [if_pos c1, if_pos c2, if_pos c3, me_now, me_undos, me_undoMany] using hM) | (simpa only [if_pos c1, if_pos c2, if_pos c3, me2_now, me2_undos, me2_undoMany, mg_undos_now, mg_undoMany_now, mg_undoMany_undos] using hM))⟩
def x4_house (H : Nat) (cash : Int32) (debt : Int32) : Int32 := (if zin cash 10000 then (if zin debt 10000 then (if H = 6 then (-1) else (nI (H + 1)) - 1 : Int32) else (-1) : Int32) else (-1) : Int32)
def x4_house_now (m_now : Nat → Int32) (H : Nat) (cash : Int32) (debt : Int32) : Nat → Int32 := if zin cash 10000 then if zin debt 10000 then if H = 6 then m_now else upd (upd (upd (upd (m_now) (10 + (5 * H)) (nI cash.toNatClampNeg)) (10 + (5 * H) + 1) (nI debt.toNatClampNeg)) (10 + (5 * H) + 3) 1) 1 (nI (H + 1)) else m_now else m_now
def x4_house_undos (m_now : Nat → Int32) (m_undos : Nat → Int32) (H : Nat) (U : Nat) (cash : Int32) (debt : Int32) : Nat → Int32 := if zin cash 10000 then if zin debt 10000 then if H = 6 then m_undos else x4_remembers_undos (m_now) (m_undos) U else m_undos else m_undos
def x4_house_undoMany (m_undoMany : Int32) (H : Nat) (U : Nat) (cash : Int32) (debt : Int32) : Int32 := if zin cash 10000 then if zin debt 10000 then if H = 6 then m_undoMany else x4_remembers_undoMany U else m_undoMany else m_undoMany
set_option maxHeartbeats 4000000 in
theorem met_X4_house {g : Zg} (hG : zG g) {G0 : zHG} {o : Nat} {M : MT} (hM : zMo g G0 o M) {A H : Nat} {K : Nat → Nat} (hN : zWf (mt_now M) A H K) {U : Nat} (hU : mt_undoMany M = nI U ∧ U ≤ 12) (cash : Int32) (debt : Int32)    : ZM g yX4_house cX4_house 4 (some FieldType.int) 2 0 0 [.ref o, .int cash, .int debt] G0 (fun r G' => r = some (.int (x4_house H cash debt)) ∧ zMs g G0 G' o (ms_undoMany (ms_undos (ms_now M (x4_house_now (mt_now M) H cash debt)) (x4_house_undos (mt_now M) (mt_undos M) H U cash debt)) (x4_house_undoMany (mt_undoMany M) H U cash debt))) := by
  unfold x4_house x4_house_now x4_house_undos x4_house_undoMany
  have hU2 := hU.2
  have hN2 := hN.2.1
  have hN4 := hN.2.2.2.1
  refine ZM_mk hG (by decide) (Nat.le_of_ble_eq_true rfl) ?_
  intro X hX hname hQ
  obtain ⟨G, hGe⟩ : ∃ z, z = G0 := ⟨_, rfl⟩
  have hM : zMs g G0 G o M := by rw [hGe]; exact zMs.rf hM
  show ZW g X 0 0 G0 0 [(0, .ref o), (1, .int cash), (2, .int debt)] []
  rw [← hGe]
  refine z_iload_n hX dX4_house_0 1 rfl (i := 1) rfl 1 rfl ?_
  refine z_iconst hX dX4_house_1 2 rfl zki_0 ?_
  refine z_sipush hX dX4_house_2 5 rfl zks_9999 ?_
  refine z_callSp hX cwX4_68 (w := .int (if zin cash 10000 then 1 else 0 : Int32)) (met_X4_isInz hG cash 9999 10000 (by decide)) dX4_house_5 8 rfl rfl rfl (Nat.le_of_ble_eq_true rfl) (by decide) ⟨Nat.zero_le _, Nat.zero_le _⟩ ?_
  refine z_if_eqP hX (zin cash 10000) dX4_house_8 11 rfl (tgt := 33) (by decide) (fun c1 => ?_) (fun c1 => ?_)
  ·
    refine z_iconst hX dX4_house_33 34 rfl zki_m1 ?_
    exact z_iret hX hQ (Nat.zero_le _) (Nat.zero_le _) rfl dX4_house_34 ⟨(by first | (simp only [if_neg c1] <;> rfl; done) | grind), (by first | (simpa only [if_neg c1, me_now, me_undos, me_undoMany] using hM) | (simpa only [if_neg c1, me2_now, me2_undos, me2_undoMany, mg_undos_now, mg_undoMany_now, mg_undoMany_undos] using hM))⟩
  ·
    have e_cash := zin_eq c1
    have l_cash := zin_lt c1
    refine z_eqL (L' := [(0, .ref o), (1, .int (nI cash.toNatClampNeg)), (2, .int debt)]) (st' := []) (by rw [← e_cash]) (by first | rfl | rw [← e_cash]) ?_
    refine z_iload_n hX dX4_house_11 12 rfl (i := 2) rfl 2 rfl ?_
    refine z_iconst hX dX4_house_12 13 rfl zki_0 ?_
    refine z_sipush hX dX4_house_13 16 rfl zks_9999 ?_
    refine z_callSp hX cwX4_68 (w := .int (if zin debt 10000 then 1 else 0 : Int32)) (met_X4_isInz hG debt 9999 10000 (by decide)) dX4_house_16 19 rfl rfl rfl (Nat.le_of_ble_eq_true rfl) (by decide) ⟨Nat.zero_le _, Nat.zero_le _⟩ ?_
    refine z_if_eqP hX (zin debt 10000) dX4_house_19 22 rfl (tgt := 33) (by decide) (fun c2 => ?_) (fun c2 => ?_)
    ·
      refine z_iconst hX dX4_house_33 34 rfl zki_m1 ?_
      exact z_iret hX hQ (Nat.zero_le _) (Nat.zero_le _) rfl dX4_house_34 ⟨(by first | (simp only [if_pos c1, if_neg c2] <;> rfl; done) | grind), (by first | (simpa only [if_pos c1, if_neg c2, me_now, me_undos, me_undoMany] using hM) | (simpa only [if_pos c1, if_neg c2, me2_now, me2_undos, me2_undoMany, mg_undos_now, mg_undoMany_now, mg_undoMany_undos] using hM))⟩
    ·
      have e_debt := zin_eq c2
      have l_debt := zin_lt c2
      refine z_eqL (L' := [(0, .ref o), (1, .int (nI cash.toNatClampNeg)), (2, .int (nI debt.toNatClampNeg))]) (st' := []) (by rw [← e_debt]) (by first | rfl | rw [← e_debt]) ?_
      refine z_aload_n hX dX4_house_22 23 rfl (i := 0) rfl 0 rfl ?_
      refine z_getf hX fX4_7 hM.1.o dX4_house_23 26 rfl (x := .ref (o + 1)) rfl ?_
      refine z_iconst hX dX4_house_26 27 rfl zki_1 ?_
      refine m_ald_now hX hM 1 (by omega) dX4_house_27 28 rfl (w := nI H) hN.2.2.1 ?_
      refine z_bipush hX dX4_house_28 30 rfl zkb_6 ?_
      refine z_icmp_neN hX H 6 (by omega) (by omega) dX4_house_30 33 rfl (tgt := 35) (by decide) (fun c3 => ?_) (fun c3 => ?_)
      ·
        refine z_aload_n hX dX4_house_35 36 rfl (i := 0) rfl 0 rfl ?_
        refine z_callVv hX cwX4_234 (met_X4_remembers hG hM.1 hU) hM.1.o rfl rfl dX4_house_36 39 rfl rfl rfl (Nat.le_of_ble_eq_true rfl) (by decide) ⟨Nat.zero_le _, Nat.zero_le _⟩ (fun G hhM => ?_)
        have hM := zMs.tr hM hhM
        have hM : zMs g G0 G o (ms_undoMany (ms_undos M (x4_remembers_undos (mt_now M) (mt_undos M) U)) (x4_remembers_undoMany U)) := hM
        refine z_bipush hX dX4_house_39 41 rfl zkb_10 ?_
        refine z_iconst hX dX4_house_41 42 rfl zki_5 ?_
        refine z_aload_n hX dX4_house_42 43 rfl (i := 0) rfl 0 rfl ?_
        refine z_getf hX fX4_7 hM.1.o dX4_house_43 46 rfl (x := .ref (o + 1)) rfl ?_
        refine z_iconst hX dX4_house_46 47 rfl zki_1 ?_
        refine m_ald_now hX hM 1 (by omega) dX4_house_47 48 rfl (w := nI H) ((congrFun ((mg_now_undoMany _ _).trans (mg_now_undos _ _)) 1).trans hN.2.2.1) ?_
        refine z_imul hX dX4_house_48 49 rfl (w := nI (5 * H)) (pk_mul 5 H) ?_
        refine z_iadd hX dX4_house_49 50 rfl (w := nI (10 + (5 * H))) (nI_add 10 (5 * H)) ?_
        refine z_istore_n hX dX4_house_50 51 rfl (i := 3) rfl (Nat.le_of_ble_eq_true rfl) rfl (L' := [(0, .ref o), (1, .int (nI cash.toNatClampNeg)), (2, .int (nI debt.toNatClampNeg)), (3, .int (nI (10 + (5 * H))))]) rfl ?_
        refine z_aload_n hX dX4_house_51 52 rfl (i := 0) rfl 0 rfl ?_
        refine z_getf hX fX4_7 hM.1.o dX4_house_52 55 rfl (x := .ref (o + 1)) rfl ?_
        refine z_iload_n hX dX4_house_55 56 rfl (i := 3) rfl 3 rfl ?_
        refine z_iconst hX dX4_house_56 57 rfl zki_0 ?_
        refine z_iadd hX dX4_house_57 58 rfl (w := nI (10 + (5 * H))) (nI_add (10 + (5 * H)) 0) ?_
        refine z_iload_n hX dX4_house_58 59 rfl (i := 1) rfl 1 rfl ?_
        refine m_ast_now hX hM (10 + (5 * H)) (by omega) dX4_house_59 60 rfl (fun G hM => ?_)
        have hM : zMs g G0 G o (ms_undoMany (ms_undos (ms_now M (upd (mt_now M) (10 + (5 * H)) (nI cash.toNatClampNeg))) (x4_remembers_undos (mt_now M) (mt_undos M) U)) (x4_remembers_undoMany U)) := by simpa only [mg_now_undos, mg_now_undoMany, mc_now_undos, mc_now_undoMany, mm_now, mc_undos_undoMany, mm_undos, mm_undoMany] using hM
        refine z_aload_n hX dX4_house_60 61 rfl (i := 0) rfl 0 rfl ?_
        refine z_getf hX fX4_7 hM.1.o dX4_house_61 64 rfl (x := .ref (o + 1)) rfl ?_
        refine z_iload_n hX dX4_house_64 65 rfl (i := 3) rfl 3 rfl ?_
        refine z_iconst hX dX4_house_65 66 rfl zki_1 ?_
        refine z_iadd hX dX4_house_66 67 rfl (w := nI (10 + (5 * H) + 1)) (nI_add (10 + (5 * H)) 1) ?_
        refine z_iload_n hX dX4_house_67 68 rfl (i := 2) rfl 2 rfl ?_
        refine m_ast_now hX hM (10 + (5 * H) + 1) (by omega) dX4_house_68 69 rfl (fun G hM => ?_)
        have hM : zMs g G0 G o (ms_undoMany (ms_undos (ms_now M (upd (upd (mt_now M) (10 + (5 * H)) (nI cash.toNatClampNeg)) (10 + (5 * H) + 1) (nI debt.toNatClampNeg))) (x4_remembers_undos (mt_now M) (mt_undos M) U)) (x4_remembers_undoMany U)) := by simpa only [mg_now_undos, mg_now_undoMany, mgs_now, mc_now_undos, mc_now_undoMany, mm_now, mc_undos_undoMany, mm_undos, mm_undoMany] using hM
        refine z_aload_n hX dX4_house_69 70 rfl (i := 0) rfl 0 rfl ?_
        refine z_getf hX fX4_7 hM.1.o dX4_house_70 73 rfl (x := .ref (o + 1)) rfl ?_
        refine z_iload_n hX dX4_house_73 74 rfl (i := 3) rfl 3 rfl ?_
        refine z_iconst hX dX4_house_74 75 rfl zki_3 ?_
        refine z_iadd hX dX4_house_75 76 rfl (w := nI (10 + (5 * H) + 3)) (nI_add (10 + (5 * H)) 3) ?_
        refine z_iconst hX dX4_house_76 77 rfl zki_1 ?_
        refine m_ast_now hX hM (10 + (5 * H) + 3) (by omega) dX4_house_77 78 rfl (fun G hM => ?_)
        have hM : zMs g G0 G o (ms_undoMany (ms_undos (ms_now M (upd (upd (upd (mt_now M) (10 + (5 * H)) (nI cash.toNatClampNeg)) (10 + (5 * H) + 1) (nI debt.toNatClampNeg)) (10 + (5 * H) + 3) 1)) (x4_remembers_undos (mt_now M) (mt_undos M) U)) (x4_remembers_undoMany U)) := by simpa only [mg_now_undos, mg_now_undoMany, mgs_now, mc_now_undos, mc_now_undoMany, mm_now, mc_undos_undoMany, mm_undos, mm_undoMany] using hM
        refine z_aload_n hX dX4_house_78 79 rfl (i := 0) rfl 0 rfl ?_
        refine z_getf hX fX4_7 hM.1.o dX4_house_79 82 rfl (x := .ref (o + 1)) rfl ?_
        refine z_iconst hX dX4_house_82 83 rfl zki_1 ?_
        refine z_dup2_11 hX dX4_house_83 84 rfl rfl rfl ?_
        refine m_ald_now hX hM 1 (by omega) dX4_house_84 85 rfl (w := nI H) ((congrFun ((mg_now_undoMany _ _).trans ((mg_now_undos _ _).trans (mgs_now _ _))) 1).trans ((zpk_un (by omega)).trans ((zpk_un (by omega)).trans ((zpk_un (by omega)).trans hN.2.2.1)))) ?_
        refine z_iconst hX dX4_house_85 86 rfl zki_1 ?_
        refine z_iadd hX dX4_house_86 87 rfl (w := nI (H + 1)) (nI_add H 1) ?_
        refine m_ast_now hX hM 1 (by omega) dX4_house_87 88 rfl (fun G hM => ?_)
        have hM : zMs g G0 G o (ms_undoMany (ms_undos (ms_now M (upd (upd (upd (upd (mt_now M) (10 + (5 * H)) (nI cash.toNatClampNeg)) (10 + (5 * H) + 1) (nI debt.toNatClampNeg)) (10 + (5 * H) + 3) 1) 1 (nI (H + 1)))) (x4_remembers_undos (mt_now M) (mt_undos M) U)) (x4_remembers_undoMany U)) := by simpa only [mg_now_undos, mg_now_undoMany, mgs_now, mc_now_undos, mc_now_undoMany, mm_now, mc_undos_undoMany, mm_undos, mm_undoMany] using hM
        refine z_aload_n hX dX4_house_88 89 rfl (i := 0) rfl 0 rfl ?_
        refine z_getf hX fX4_7 hM.1.o dX4_house_89 92 rfl (x := .ref (o + 1)) rfl ?_
        refine z_iconst hX dX4_house_92 93 rfl zki_1 ?_
        refine m_ald_now hX hM 1 (by omega) dX4_house_93 94 rfl (w := (nI (H + 1))) ((congrFun ((mg_now_undoMany _ _).trans ((mg_now_undos _ _).trans (mgs_now _ _))) 1).trans pk_us) ?_
        refine z_iconst hX dX4_house_94 95 rfl zki_1 ?_
        refine z_isub hX dX4_house_95 96 rfl (w := (nI (H + 1)) - 1) rfl ?_
        exact z_iret hX hQ (Nat.zero_le _) (Nat.zero_le _) rfl dX4_house_96 ⟨(by first | (simp only [if_pos c1, if_pos c2, if_neg c3] <;> rfl; done) | grind), (by first | (simpa only [if_pos c1, if_pos c2, if_neg c3, me_now, me_undos, me_undoMany] using hM) | (simpa only [if_pos c1, if_pos c2, if_neg c3, me2_now, me2_undos, me2_undoMany, mg_undos_now, mg_undoMany_now, mg_undoMany_undos] using hM))⟩
      ·
        refine z_iconst hX dX4_house_33 34 rfl zki_m1 ?_
        exact z_iret hX hQ (Nat.zero_le _) (Nat.zero_le _) rfl dX4_house_34 ⟨(by first | (simp only [if_pos c1, if_pos c2, if_pos c3] <;> rfl; done) | grind), (by first | (simpa only [if_pos c1, if_pos c2, if_pos c3, me_now, me_undos, me_undoMany] using hM) | (simpa only [if_pos c1, if_pos c2, if_pos c3, me2_now, me2_undos, me2_undoMany, mg_undos_now, mg_undoMany_now, mg_undoMany_undos] using hM))⟩
def x4_set (m_now : Nat → Int32) (H : Nat) (house : Int32) (what : Int32) (v : Int32) : Int32 := (if zin house H then (if zin what 5 then (if (if what.toNatClampNeg = 3 then 1 else 0 : Int32) ≤ v ∧ v ≤ (nI (if what.toNatClampNeg = 3 then 99 else if what.toNatClampNeg = 4 then 1 else 9999)) then (if (m_now (10 + (5 * house.toNatClampNeg) + what.toNatClampNeg)) = v then (-1) else x4_puts (m_now) (10 + (5 * house.toNatClampNeg) + what.toNatClampNeg) v : Int32) else (-1) : Int32) else (-1) : Int32) else (-1) : Int32)
def x4_set_now (m_now : Nat → Int32) (H : Nat) (house : Int32) (what : Int32) (v : Int32) : Nat → Int32 := if zin house H then if zin what 5 then if (if what.toNatClampNeg = 3 then 1 else 0 : Int32) ≤ v ∧ v ≤ (nI (if what.toNatClampNeg = 3 then 99 else if what.toNatClampNeg = 4 then 1 else 9999)) then if (m_now (10 + (5 * house.toNatClampNeg) + what.toNatClampNeg)) = v then m_now else x4_puts_now (m_now) (10 + (5 * house.toNatClampNeg) + what.toNatClampNeg) v else m_now else m_now else m_now
def x4_set_undos (m_now : Nat → Int32) (m_undos : Nat → Int32) (H : Nat) (U : Nat) (house : Int32) (what : Int32) (v : Int32) : Nat → Int32 := if zin house H then if zin what 5 then if (if what.toNatClampNeg = 3 then 1 else 0 : Int32) ≤ v ∧ v ≤ (nI (if what.toNatClampNeg = 3 then 99 else if what.toNatClampNeg = 4 then 1 else 9999)) then if (m_now (10 + (5 * house.toNatClampNeg) + what.toNatClampNeg)) = v then m_undos else x4_puts_undos (m_now) (m_undos) U (10 + (5 * house.toNatClampNeg) + what.toNatClampNeg) v else m_undos else m_undos else m_undos
def x4_set_undoMany (m_now : Nat → Int32) (m_undoMany : Int32) (H : Nat) (U : Nat) (house : Int32) (what : Int32) (v : Int32) : Int32 := if zin house H then if zin what 5 then if (if what.toNatClampNeg = 3 then 1 else 0 : Int32) ≤ v ∧ v ≤ (nI (if what.toNatClampNeg = 3 then 99 else if what.toNatClampNeg = 4 then 1 else 9999)) then if (m_now (10 + (5 * house.toNatClampNeg) + what.toNatClampNeg)) = v then m_undoMany else x4_puts_undoMany U (10 + (5 * house.toNatClampNeg) + what.toNatClampNeg) v else m_undoMany else m_undoMany else m_undoMany
set_option maxHeartbeats 4000000 in
theorem met_X4_set {g : Zg} (hG : zG g) {G0 : zHG} {o : Nat} {M : MT} (hM : zMo g G0 o M) {A H : Nat} {K : Nat → Nat} (hN : zWf (mt_now M) A H K) {U : Nat} (hU : mt_undoMany M = nI U ∧ U ≤ 12) (house : Int32) (what : Int32) (v : Int32)    : ZM g yX4_set cX4_set 4 (some FieldType.int) 3 0 0 [.ref o, .int house, .int what, .int v] G0 (fun r G' => r = some (.int (x4_set (mt_now M) H house what v)) ∧ zMs g G0 G' o (ms_undoMany (ms_undos (ms_now M (x4_set_now (mt_now M) H house what v)) (x4_set_undos (mt_now M) (mt_undos M) H U house what v)) (x4_set_undoMany (mt_now M) (mt_undoMany M) H U house what v))) := by
  unfold x4_set x4_set_now x4_set_undos x4_set_undoMany
  have hU2 := hU.2
  have hN2 := hN.2.1
  have hN4 := hN.2.2.2.1
  refine ZM_mk hG (by decide) (Nat.le_of_ble_eq_true rfl) ?_
  intro X hX hname hQ
  obtain ⟨G, hGe⟩ : ∃ z, z = G0 := ⟨_, rfl⟩
  have hM : zMs g G0 G o M := by rw [hGe]; exact zMs.rf hM
  show ZW g X 0 0 G0 0 [(0, .ref o), (1, .int house), (2, .int what), (3, .int v)] []
  rw [← hGe]
  refine z_aload_n hX dX4_set_0 1 rfl (i := 0) rfl 0 rfl ?_
  refine z_iload_n hX dX4_set_1 2 rfl (i := 1) rfl 1 rfl ?_
  refine z_callVp hX cwX4_237 (w := .int (if zin house H then 1 else 0 : Int32)) (met_X4_isHouse hG hM.1 hN house) hM.1.o rfl rfl dX4_set_2 5 rfl rfl rfl (Nat.le_of_ble_eq_true rfl) (by decide) ⟨Nat.zero_le _, Nat.zero_le _⟩ ?_
  refine z_if_eqP hX (zin house H) dX4_set_5 8 rfl (tgt := 66) (by decide) (fun c1 => ?_) (fun c1 => ?_)
  ·
    refine z_iconst hX dX4_set_66 67 rfl zki_m1 ?_
    exact z_iret hX hQ (Nat.zero_le _) (Nat.zero_le _) rfl dX4_set_67 ⟨(by first | (simp only [if_neg c1] <;> rfl; done) | grind), (by first | (simpa only [if_neg c1, me_now, me_undos, me_undoMany] using hM) | (simpa only [if_neg c1, me2_now, me2_undos, me2_undoMany, mg_undos_now, mg_undoMany_now, mg_undoMany_undos] using hM))⟩
  ·
    have e_house := zin_eq c1
    have l_house := zin_lt c1
    refine z_eqL (L' := [(0, .ref o), (1, .int (nI house.toNatClampNeg)), (2, .int what), (3, .int v)]) (st' := []) (by rw [← e_house]) (by first | rfl | rw [← e_house]) ?_
    refine z_iload_n hX dX4_set_8 9 rfl (i := 2) rfl 2 rfl ?_
    refine z_iconst hX dX4_set_9 10 rfl zki_0 ?_
    refine z_iconst hX dX4_set_10 11 rfl zki_4 ?_
    refine z_callSp hX cwX4_68 (w := .int (if zin what 5 then 1 else 0 : Int32)) (met_X4_isInz hG what 4 5 (by decide)) dX4_set_11 14 rfl rfl rfl (Nat.le_of_ble_eq_true rfl) (by decide) ⟨Nat.zero_le _, Nat.zero_le _⟩ ?_
    refine z_if_eqP hX (zin what 5) dX4_set_14 17 rfl (tgt := 66) (by decide) (fun c2 => ?_) (fun c2 => ?_)
    ·
      refine z_iconst hX dX4_set_66 67 rfl zki_m1 ?_
      exact z_iret hX hQ (Nat.zero_le _) (Nat.zero_le _) rfl dX4_set_67 ⟨(by first | (simp only [if_pos c1, if_neg c2] <;> rfl; done) | grind), (by first | (simpa only [if_pos c1, if_neg c2, me_now, me_undos, me_undoMany] using hM) | (simpa only [if_pos c1, if_neg c2, me2_now, me2_undos, me2_undoMany, mg_undos_now, mg_undoMany_now, mg_undoMany_undos] using hM))⟩
    ·
      have e_what := zin_eq c2
      have l_what := zin_lt c2
      refine z_eqL (L' := [(0, .ref o), (1, .int (nI house.toNatClampNeg)), (2, .int (nI what.toNatClampNeg)), (3, .int v)]) (st' := []) (by rw [← e_what]) (by first | rfl | rw [← e_what]) ?_
      refine z_iload_n hX dX4_set_17 18 rfl (i := 3) rfl 3 rfl ?_
      refine z_iload_n hX dX4_set_18 19 rfl (i := 2) rfl 2 rfl ?_
      refine z_iconst hX dX4_set_19 20 rfl zki_3 ?_
      have J4 : ZW g X 0 0 G 28 [(0, .ref o), (1, .int (nI house.toNatClampNeg)), (2, .int (nI what.toNatClampNeg)), (3, .int v)] [.int (if what.toNatClampNeg = 3 then 1 else 0 : Int32), .int v] := by
        refine z_iload_n hX dX4_set_28 29 rfl (i := 2) rfl 2 rfl ?_
        refine z_iconst hX dX4_set_29 30 rfl zki_3 ?_
        have J6 : ZW g X 0 0 G 50 [(0, .ref o), (1, .int (nI house.toNatClampNeg)), (2, .int (nI what.toNatClampNeg)), (3, .int v)] [.int (nI (if what.toNatClampNeg = 3 then 99 else if what.toNatClampNeg = 4 then 1 else 9999)), .int (if what.toNatClampNeg = 3 then 1 else 0 : Int32), .int v] := by
          refine z_callSp hX cwX4_68 (w := .int (if (if what.toNatClampNeg = 3 then 1 else 0 : Int32) ≤ v ∧ v ≤ (nI (if what.toNatClampNeg = 3 then 99 else if what.toNatClampNeg = 4 then 1 else 9999)) then 1 else 0 : Int32)) (met_X4_isIn hG v (if what.toNatClampNeg = 3 then 1 else 0 : Int32) (nI (if what.toNatClampNeg = 3 then 99 else if what.toNatClampNeg = 4 then 1 else 9999))) dX4_set_50 53 rfl rfl rfl (Nat.le_of_ble_eq_true rfl) (by decide) ⟨Nat.zero_le _, Nat.zero_le _⟩ ?_
          refine z_if_eqP hX ((if what.toNatClampNeg = 3 then 1 else 0 : Int32) ≤ v ∧ v ≤ (nI (if what.toNatClampNeg = 3 then 99 else if what.toNatClampNeg = 4 then 1 else 9999))) dX4_set_53 56 rfl (tgt := 66) (by decide) (fun c7 => ?_) (fun c7 => ?_)
          ·
            refine z_iconst hX dX4_set_66 67 rfl zki_m1 ?_
            exact z_iret hX hQ (Nat.zero_le _) (Nat.zero_le _) rfl dX4_set_67 ⟨(by first | (simp only [if_pos c1, if_pos c2, if_neg c7] <;> rfl; done) | grind), (by first | (simpa only [if_pos c1, if_pos c2, if_neg c7, me_now, me_undos, me_undoMany] using hM) | (simpa only [if_pos c1, if_pos c2, if_neg c7, me2_now, me2_undos, me2_undoMany, mg_undos_now, mg_undoMany_now, mg_undoMany_undos] using hM))⟩
          ·
            refine z_aload_n hX dX4_set_56 57 rfl (i := 0) rfl 0 rfl ?_
            refine z_iload_n hX dX4_set_57 58 rfl (i := 1) rfl 1 rfl ?_
            refine z_iload_n hX dX4_set_58 59 rfl (i := 2) rfl 2 rfl ?_
            refine z_callVp hX cwX4_175 (w := .int (mt_now M (10 + (5 * house.toNatClampNeg) + what.toNatClampNeg))) (met_X4_houseOf hG hM.1 house.toNatClampNeg what.toNatClampNeg (by omega) (by omega)) hM.1.o rfl rfl dX4_set_59 62 rfl rfl rfl (Nat.le_of_ble_eq_true rfl) (by decide) ⟨Nat.zero_le _, Nat.zero_le _⟩ ?_
            refine z_iload_n hX dX4_set_62 63 rfl (i := 3) rfl 3 rfl ?_
            refine z_icmp_ne hX dX4_set_63 66 rfl (tgt := 68) (by decide) (fun c8 => ?_) (fun c8 => ?_)
            ·
              refine z_aload_n hX dX4_set_68 69 rfl (i := 0) rfl 0 rfl ?_
              refine z_bipush hX dX4_set_69 71 rfl zkb_10 ?_
              refine z_iconst hX dX4_set_71 72 rfl zki_5 ?_
              refine z_iload_n hX dX4_set_72 73 rfl (i := 1) rfl 1 rfl ?_
              refine z_imul hX dX4_set_73 74 rfl (w := nI (5 * house.toNatClampNeg)) (pk_mul 5 house.toNatClampNeg) ?_
              refine z_iadd hX dX4_set_74 75 rfl (w := nI (10 + (5 * house.toNatClampNeg))) (nI_add 10 (5 * house.toNatClampNeg)) ?_
              refine z_iload_n hX dX4_set_75 76 rfl (i := 2) rfl 2 rfl ?_
              refine z_iadd hX dX4_set_76 77 rfl (w := nI (10 + (5 * house.toNatClampNeg) + what.toNatClampNeg)) (nI_add (10 + (5 * house.toNatClampNeg)) what.toNatClampNeg) ?_
              refine z_iload_n hX dX4_set_77 78 rfl (i := 3) rfl 3 rfl ?_
              refine z_callVm hX cwX4_240 (w := .int (x4_puts (mt_now M) (10 + (5 * house.toNatClampNeg) + what.toNatClampNeg) v)) (met_X4_puts hG hM.1 hU (10 + (5 * house.toNatClampNeg) + what.toNatClampNeg) v (by omega)) hM.1.o rfl rfl dX4_set_78 81 rfl rfl rfl (Nat.le_of_ble_eq_true rfl) (by decide) ⟨Nat.zero_le _, Nat.zero_le _⟩ (fun G hhM => ?_)
              have hM := zMs.tr hM hhM
              have hM : zMs g G0 G o (ms_undoMany (ms_undos (ms_now M (x4_puts_now (mt_now M) (10 + (5 * house.toNatClampNeg) + what.toNatClampNeg) v)) (x4_puts_undos (mt_now M) (mt_undos M) U (10 + (5 * house.toNatClampNeg) + what.toNatClampNeg) v)) (x4_puts_undoMany U (10 + (5 * house.toNatClampNeg) + what.toNatClampNeg) v)) := hM
              exact z_iret hX hQ (Nat.zero_le _) (Nat.zero_le _) rfl dX4_set_81 ⟨(by first | (simp only [if_pos c1, if_pos c2, if_pos c7, if_neg c8] <;> rfl; done) | grind), (by first | (simpa only [if_pos c1, if_pos c2, if_pos c7, if_neg c8, me_now, me_undos, me_undoMany] using hM) | (simpa only [if_pos c1, if_pos c2, if_pos c7, if_neg c8, me2_now, me2_undos, me2_undoMany, mg_undos_now, mg_undoMany_now, mg_undoMany_undos] using hM))⟩
            ·
              refine z_iconst hX dX4_set_66 67 rfl zki_m1 ?_
              exact z_iret hX hQ (Nat.zero_le _) (Nat.zero_le _) rfl dX4_set_67 ⟨(by first | (simp only [if_pos c1, if_pos c2, if_pos c7, if_pos c8] <;> rfl; done) | grind), (by first | (simpa only [if_pos c1, if_pos c2, if_pos c7, if_pos c8, me_now, me_undos, me_undoMany] using hM) | (simpa only [if_pos c1, if_pos c2, if_pos c7, if_pos c8, me2_now, me2_undos, me2_undoMany, mg_undos_now, mg_undoMany_now, mg_undoMany_undos] using hM))⟩
        refine z_icmp_neN hX what.toNatClampNeg 3 (by omega) (by omega) dX4_set_30 33 rfl (tgt := 38) (by decide) (fun c5 => ?_) (fun c5 => ?_)
        ·
          refine z_iload_n hX dX4_set_38 39 rfl (i := 2) rfl 2 rfl ?_
          refine z_iconst hX dX4_set_39 40 rfl zki_4 ?_
          refine z_icmp_neN hX what.toNatClampNeg 4 (by omega) (by omega) dX4_set_40 43 rfl (tgt := 47) (by decide) (fun c9 => ?_) (fun c9 => ?_)
          ·
            refine z_sipush hX dX4_set_47 50 rfl zks_9999 ?_
            exact z_eqL rfl (by first | (simp only [if_pos c1, if_pos c2, if_neg c5, if_neg c9] <;> rfl; done) | grind) J6
          ·
            refine z_iconst hX dX4_set_43 44 rfl zki_1 ?_
            refine z_goto hX dX4_set_44 (tgt := 50) (by decide) ?_
            exact z_eqL rfl (by first | (simp only [if_pos c1, if_pos c2, if_neg c5, if_pos c9] <;> rfl; done) | grind) J6
        ·
          refine z_bipush hX dX4_set_33 35 rfl zkb_99 ?_
          refine z_goto hX dX4_set_35 (tgt := 50) (by decide) ?_
          exact z_eqL rfl (by first | (simp only [if_pos c1, if_pos c2, if_pos c5] <;> rfl; done) | grind) J6
      refine z_icmp_neN hX what.toNatClampNeg 3 (by omega) (by omega) dX4_set_20 23 rfl (tgt := 27) (by decide) (fun c3 => ?_) (fun c3 => ?_)
      ·
        refine z_iconst hX dX4_set_27 28 rfl zki_0 ?_
        exact z_eqL rfl (by first | (simp only [if_pos c1, if_pos c2, if_neg c3] <;> rfl; done) | grind) J4
      ·
        refine z_iconst hX dX4_set_23 24 rfl zki_1 ?_
        refine z_goto hX dX4_set_24 (tgt := 28) (by decide) ?_
        exact z_eqL rfl (by first | (simp only [if_pos c1, if_pos c2, if_pos c3] <;> rfl; done) | grind) J4
def x4_hold (m_now : Nat → Int32) (A : Nat) (H : Nat) (house : Int32) (asset : Int32) (n : Int32) : Int32 := (if zin house H then (if zin asset A then (if zin n 61 then (if (m_now (40 + (4 * house.toNatClampNeg) + asset.toNatClampNeg)) = (nI n.toNatClampNeg) then (-1) else x4_puts (m_now) (40 + (4 * house.toNatClampNeg) + asset.toNatClampNeg) (nI n.toNatClampNeg) : Int32) else (-1) : Int32) else (-1) : Int32) else (-1) : Int32)
def x4_hold_now (m_now : Nat → Int32) (A : Nat) (H : Nat) (house : Int32) (asset : Int32) (n : Int32) : Nat → Int32 := if zin house H then if zin asset A then if zin n 61 then if (m_now (40 + (4 * house.toNatClampNeg) + asset.toNatClampNeg)) = (nI n.toNatClampNeg) then m_now else x4_puts_now (m_now) (40 + (4 * house.toNatClampNeg) + asset.toNatClampNeg) (nI n.toNatClampNeg) else m_now else m_now else m_now
def x4_hold_undos (m_now : Nat → Int32) (m_undos : Nat → Int32) (A : Nat) (H : Nat) (U : Nat) (house : Int32) (asset : Int32) (n : Int32) : Nat → Int32 := if zin house H then if zin asset A then if zin n 61 then if (m_now (40 + (4 * house.toNatClampNeg) + asset.toNatClampNeg)) = (nI n.toNatClampNeg) then m_undos else x4_puts_undos (m_now) (m_undos) U (40 + (4 * house.toNatClampNeg) + asset.toNatClampNeg) (nI n.toNatClampNeg) else m_undos else m_undos else m_undos
def x4_hold_undoMany (m_now : Nat → Int32) (m_undoMany : Int32) (A : Nat) (H : Nat) (U : Nat) (house : Int32) (asset : Int32) (n : Int32) : Int32 := if zin house H then if zin asset A then if zin n 61 then if (m_now (40 + (4 * house.toNatClampNeg) + asset.toNatClampNeg)) = (nI n.toNatClampNeg) then m_undoMany else x4_puts_undoMany U (40 + (4 * house.toNatClampNeg) + asset.toNatClampNeg) (nI n.toNatClampNeg) else m_undoMany else m_undoMany else m_undoMany
set_option maxHeartbeats 4000000 in
theorem met_X4_hold {g : Zg} (hG : zG g) {G0 : zHG} {o : Nat} {M : MT} (hM : zMo g G0 o M) {A H : Nat} {K : Nat → Nat} (hN : zWf (mt_now M) A H K) {U : Nat} (hU : mt_undoMany M = nI U ∧ U ≤ 12) (house : Int32) (asset : Int32) (n : Int32)    : ZM g yX4_hold cX4_hold 4 (some FieldType.int) 3 0 0 [.ref o, .int house, .int asset, .int n] G0 (fun r G' => r = some (.int (x4_hold (mt_now M) A H house asset n)) ∧ zMs g G0 G' o (ms_undoMany (ms_undos (ms_now M (x4_hold_now (mt_now M) A H house asset n)) (x4_hold_undos (mt_now M) (mt_undos M) A H U house asset n)) (x4_hold_undoMany (mt_now M) (mt_undoMany M) A H U house asset n))) := by
  unfold x4_hold x4_hold_now x4_hold_undos x4_hold_undoMany
  have hU2 := hU.2
  have hN2 := hN.2.1
  have hN4 := hN.2.2.2.1
  refine ZM_mk hG (by decide) (Nat.le_of_ble_eq_true rfl) ?_
  intro X hX hname hQ
  obtain ⟨G, hGe⟩ : ∃ z, z = G0 := ⟨_, rfl⟩
  have hM : zMs g G0 G o M := by rw [hGe]; exact zMs.rf hM
  show ZW g X 0 0 G0 0 [(0, .ref o), (1, .int house), (2, .int asset), (3, .int n)] []
  rw [← hGe]
  refine z_aload_n hX dX4_hold_0 1 rfl (i := 0) rfl 0 rfl ?_
  refine z_iload_n hX dX4_hold_1 2 rfl (i := 1) rfl 1 rfl ?_
  refine z_callVp hX cwX4_237 (w := .int (if zin house H then 1 else 0 : Int32)) (met_X4_isHouse hG hM.1 hN house) hM.1.o rfl rfl dX4_hold_2 5 rfl rfl rfl (Nat.le_of_ble_eq_true rfl) (by decide) ⟨Nat.zero_le _, Nat.zero_le _⟩ ?_
  have J2 : ∀ G : zHG, zMs g G0 G o (ms_undoMany (ms_undos (ms_now M (if zin house H then if zin asset A then if zin n 61 then if (mt_now M (40 + (4 * house.toNatClampNeg) + asset.toNatClampNeg)) = (nI n.toNatClampNeg) then mt_now M else x4_puts_now (mt_now M) (40 + (4 * house.toNatClampNeg) + asset.toNatClampNeg) (nI n.toNatClampNeg) else mt_now M else mt_now M else mt_now M)) (if zin house H then if zin asset A then if zin n 61 then if (mt_now M (40 + (4 * house.toNatClampNeg) + asset.toNatClampNeg)) = (nI n.toNatClampNeg) then mt_undos M else x4_puts_undos (mt_now M) (mt_undos M) U (40 + (4 * house.toNatClampNeg) + asset.toNatClampNeg) (nI n.toNatClampNeg) else mt_undos M else mt_undos M else mt_undos M)) (if zin house H then if zin asset A then if zin n 61 then if (mt_now M (40 + (4 * house.toNatClampNeg) + asset.toNatClampNeg)) = (nI n.toNatClampNeg) then mt_undoMany M else x4_puts_undoMany U (40 + (4 * house.toNatClampNeg) + asset.toNatClampNeg) (nI n.toNatClampNeg) else mt_undoMany M else mt_undoMany M else mt_undoMany M)) → ZW g X 0 0 G 53 [(0, .ref o)] [.int (if zin house H then (if zin asset A then (if zin n 61 then (if (mt_now M (40 + (4 * house.toNatClampNeg) + asset.toNatClampNeg)) = (nI n.toNatClampNeg) then (-1) else x4_puts (mt_now M) (40 + (4 * house.toNatClampNeg) + asset.toNatClampNeg) (nI n.toNatClampNeg) : Int32) else (-1) : Int32) else (-1) : Int32) else (-1) : Int32)] := by
    intro G hM
    exact z_iret hX hQ (Nat.zero_le _) (Nat.zero_le _) rfl dX4_hold_53 ⟨rfl, hM⟩
  refine z_if_eqP hX (zin house H) dX4_hold_5 8 rfl (tgt := 52) (by decide) (fun c1 => ?_) (fun c1 => ?_)
  ·
    refine z_iconst hX dX4_hold_52 53 rfl zki_m1 ?_
    refine z_sub [0] rfl ?_
    exact z_eqL rfl (by first | (simp only [if_neg c1] <;> rfl; done) | grind) (J2 _ (by first | (simpa only [if_neg c1, me_now, me_undos, me_undoMany] using hM) | (simpa only [if_neg c1, me2_now, me2_undos, me2_undoMany, mg_undos_now, mg_undoMany_now, mg_undoMany_undos] using hM)))
  ·
    have e_house := zin_eq c1
    have l_house := zin_lt c1
    refine z_eqL (L' := [(0, .ref o), (1, .int (nI house.toNatClampNeg)), (2, .int asset), (3, .int n)]) (st' := []) (by rw [← e_house]) (by first | rfl | rw [← e_house]) ?_
    refine z_aload_n hX dX4_hold_8 9 rfl (i := 0) rfl 0 rfl ?_
    refine z_iload_n hX dX4_hold_9 10 rfl (i := 2) rfl 2 rfl ?_
    refine z_callVp hX cwX4_224 (w := .int (if zin asset A then 1 else 0 : Int32)) (met_X4_isAsset hG hM.1 hN asset) hM.1.o rfl rfl dX4_hold_10 13 rfl rfl rfl (Nat.le_of_ble_eq_true rfl) (by decide) ⟨Nat.zero_le _, Nat.zero_le _⟩ ?_
    refine z_if_eqP hX (zin asset A) dX4_hold_13 16 rfl (tgt := 52) (by decide) (fun c3 => ?_) (fun c3 => ?_)
    ·
      refine z_iconst hX dX4_hold_52 53 rfl zki_m1 ?_
      refine z_sub [0] rfl ?_
      exact z_eqL rfl (by first | (simp only [if_pos c1, if_neg c3] <;> rfl; done) | grind) (J2 _ (by first | (simpa only [if_pos c1, if_neg c3, me_now, me_undos, me_undoMany] using hM) | (simpa only [if_pos c1, if_neg c3, me2_now, me2_undos, me2_undoMany, mg_undos_now, mg_undoMany_now, mg_undoMany_undos] using hM)))
    ·
      have e_asset := zin_eq c3
      have l_asset := zin_lt c3
      refine z_eqL (L' := [(0, .ref o), (1, .int (nI house.toNatClampNeg)), (2, .int (nI asset.toNatClampNeg)), (3, .int n)]) (st' := []) (by rw [← e_asset]) (by first | rfl | rw [← e_asset]) ?_
      refine z_iload_n hX dX4_hold_16 17 rfl (i := 3) rfl 3 rfl ?_
      refine z_iconst hX dX4_hold_17 18 rfl zki_0 ?_
      refine z_bipush hX dX4_hold_18 20 rfl zkb_60 ?_
      refine z_callSp hX cwX4_68 (w := .int (if zin n 61 then 1 else 0 : Int32)) (met_X4_isInz hG n 60 61 (by decide)) dX4_hold_20 23 rfl rfl rfl (Nat.le_of_ble_eq_true rfl) (by decide) ⟨Nat.zero_le _, Nat.zero_le _⟩ ?_
      refine z_if_eqP hX (zin n 61) dX4_hold_23 26 rfl (tgt := 52) (by decide) (fun c4 => ?_) (fun c4 => ?_)
      ·
        refine z_iconst hX dX4_hold_52 53 rfl zki_m1 ?_
        refine z_sub [0] rfl ?_
        exact z_eqL rfl (by first | (simp only [if_pos c1, if_pos c3, if_neg c4] <;> rfl; done) | grind) (J2 _ (by first | (simpa only [if_pos c1, if_pos c3, if_neg c4, me_now, me_undos, me_undoMany] using hM) | (simpa only [if_pos c1, if_pos c3, if_neg c4, me2_now, me2_undos, me2_undoMany, mg_undos_now, mg_undoMany_now, mg_undoMany_undos] using hM)))
      ·
        have e_n := zin_eq c4
        have l_n := zin_lt c4
        refine z_eqL (L' := [(0, .ref o), (1, .int (nI house.toNatClampNeg)), (2, .int (nI asset.toNatClampNeg)), (3, .int (nI n.toNatClampNeg))]) (st' := []) (by rw [← e_n]) (by first | rfl | rw [← e_n]) ?_
        refine z_aload_n hX dX4_hold_26 27 rfl (i := 0) rfl 0 rfl ?_
        refine z_iload_n hX dX4_hold_27 28 rfl (i := 1) rfl 1 rfl ?_
        refine z_iload_n hX dX4_hold_28 29 rfl (i := 2) rfl 2 rfl ?_
        refine z_callVp hX cwX4_72 (w := .int (mt_now M (40 + (4 * house.toNatClampNeg) + asset.toNatClampNeg))) (met_X4_holds hG hM.1 house.toNatClampNeg asset.toNatClampNeg (by omega) (by omega)) hM.1.o rfl rfl dX4_hold_29 32 rfl rfl rfl (Nat.le_of_ble_eq_true rfl) (by decide) ⟨Nat.zero_le _, Nat.zero_le _⟩ ?_
        refine z_iload_n hX dX4_hold_32 33 rfl (i := 3) rfl 3 rfl ?_
        refine z_icmp_eq hX dX4_hold_33 36 rfl (tgt := 52) (by decide) (fun c5 => ?_) (fun c5 => ?_)
        ·
          refine z_iconst hX dX4_hold_52 53 rfl zki_m1 ?_
          refine z_sub [0] rfl ?_
          exact z_eqL rfl (by first | (simp only [if_pos c1, if_pos c3, if_pos c4, if_pos c5] <;> rfl; done) | grind) (J2 _ (by first | (simpa only [if_pos c1, if_pos c3, if_pos c4, if_pos c5, me_now, me_undos, me_undoMany] using hM) | (simpa only [if_pos c1, if_pos c3, if_pos c4, if_pos c5, me2_now, me2_undos, me2_undoMany, mg_undos_now, mg_undoMany_now, mg_undoMany_undos] using hM)))
        ·
          refine z_aload_n hX dX4_hold_36 37 rfl (i := 0) rfl 0 rfl ?_
          refine z_bipush hX dX4_hold_37 39 rfl zkb_40 ?_
          refine z_iconst hX dX4_hold_39 40 rfl zki_4 ?_
          refine z_iload_n hX dX4_hold_40 41 rfl (i := 1) rfl 1 rfl ?_
          refine z_imul hX dX4_hold_41 42 rfl (w := nI (4 * house.toNatClampNeg)) (pk_mul 4 house.toNatClampNeg) ?_
          refine z_iadd hX dX4_hold_42 43 rfl (w := nI (40 + (4 * house.toNatClampNeg))) (nI_add 40 (4 * house.toNatClampNeg)) ?_
          refine z_iload_n hX dX4_hold_43 44 rfl (i := 2) rfl 2 rfl ?_
          refine z_iadd hX dX4_hold_44 45 rfl (w := nI (40 + (4 * house.toNatClampNeg) + asset.toNatClampNeg)) (nI_add (40 + (4 * house.toNatClampNeg)) asset.toNatClampNeg) ?_
          refine z_iload_n hX dX4_hold_45 46 rfl (i := 3) rfl 3 rfl ?_
          refine z_callVm hX cwX4_240 (w := .int (x4_puts (mt_now M) (40 + (4 * house.toNatClampNeg) + asset.toNatClampNeg) (nI n.toNatClampNeg))) (met_X4_puts hG hM.1 hU (40 + (4 * house.toNatClampNeg) + asset.toNatClampNeg) (nI n.toNatClampNeg) (by omega)) hM.1.o rfl rfl dX4_hold_46 49 rfl rfl rfl (Nat.le_of_ble_eq_true rfl) (by decide) ⟨Nat.zero_le _, Nat.zero_le _⟩ (fun G hhM => ?_)
          have hM := zMs.tr hM hhM
          have hM : zMs g G0 G o (ms_undoMany (ms_undos (ms_now M (x4_puts_now (mt_now M) (40 + (4 * house.toNatClampNeg) + asset.toNatClampNeg) (nI n.toNatClampNeg))) (x4_puts_undos (mt_now M) (mt_undos M) U (40 + (4 * house.toNatClampNeg) + asset.toNatClampNeg) (nI n.toNatClampNeg))) (x4_puts_undoMany U (40 + (4 * house.toNatClampNeg) + asset.toNatClampNeg) (nI n.toNatClampNeg))) := hM
          refine z_goto hX dX4_hold_49 (tgt := 53) (by decide) ?_
          refine z_sub [0] rfl ?_
          exact z_eqL rfl (by first | (simp only [if_pos c1, if_pos c3, if_pos c4, if_neg c5] <;> rfl; done) | grind) (J2 _ (by first | (simpa only [if_pos c1, if_pos c3, if_pos c4, if_neg c5, me_now, me_undos, me_undoMany] using hM) | (simpa only [if_pos c1, if_pos c3, if_pos c4, if_neg c5, me2_now, me2_undos, me2_undoMany, mg_undos_now, mg_undoMany_now, mg_undoMany_undos] using hM)))
def x4_loan (m_now : Nat → Int32) (H : Nat) (from0 : Int32) (to : Int32) (v : Int32) : Int32 := (if zin from0 H then (if zin to H then (if from0.toNatClampNeg = to.toNatClampNeg then (-1) else (if zin v 1000 then (if (m_now (64 + (6 * from0.toNatClampNeg) + to.toNatClampNeg)) = (nI v.toNatClampNeg) then (-1) else x4_puts (m_now) (64 + (6 * from0.toNatClampNeg) + to.toNatClampNeg) (nI v.toNatClampNeg) : Int32) else (-1) : Int32) : Int32) else (-1) : Int32) else (-1) : Int32)
def x4_loan_now (m_now : Nat → Int32) (H : Nat) (from0 : Int32) (to : Int32) (v : Int32) : Nat → Int32 := if zin from0 H then if zin to H then if from0.toNatClampNeg = to.toNatClampNeg then m_now else if zin v 1000 then if (m_now (64 + (6 * from0.toNatClampNeg) + to.toNatClampNeg)) = (nI v.toNatClampNeg) then m_now else x4_puts_now (m_now) (64 + (6 * from0.toNatClampNeg) + to.toNatClampNeg) (nI v.toNatClampNeg) else m_now else m_now else m_now
def x4_loan_undos (m_now : Nat → Int32) (m_undos : Nat → Int32) (H : Nat) (U : Nat) (from0 : Int32) (to : Int32) (v : Int32) : Nat → Int32 := if zin from0 H then if zin to H then if from0.toNatClampNeg = to.toNatClampNeg then m_undos else if zin v 1000 then if (m_now (64 + (6 * from0.toNatClampNeg) + to.toNatClampNeg)) = (nI v.toNatClampNeg) then m_undos else x4_puts_undos (m_now) (m_undos) U (64 + (6 * from0.toNatClampNeg) + to.toNatClampNeg) (nI v.toNatClampNeg) else m_undos else m_undos else m_undos
def x4_loan_undoMany (m_now : Nat → Int32) (m_undoMany : Int32) (H : Nat) (U : Nat) (from0 : Int32) (to : Int32) (v : Int32) : Int32 := if zin from0 H then if zin to H then if from0.toNatClampNeg = to.toNatClampNeg then m_undoMany else if zin v 1000 then if (m_now (64 + (6 * from0.toNatClampNeg) + to.toNatClampNeg)) = (nI v.toNatClampNeg) then m_undoMany else x4_puts_undoMany U (64 + (6 * from0.toNatClampNeg) + to.toNatClampNeg) (nI v.toNatClampNeg) else m_undoMany else m_undoMany else m_undoMany
set_option maxHeartbeats 4000000 in
theorem met_X4_loan {g : Zg} (hG : zG g) {G0 : zHG} {o : Nat} {M : MT} (hM : zMo g G0 o M) {A H : Nat} {K : Nat → Nat} (hN : zWf (mt_now M) A H K) {U : Nat} (hU : mt_undoMany M = nI U ∧ U ≤ 12) (from0 : Int32) (to : Int32) (v : Int32)    : ZM g yX4_loan cX4_loan 4 (some FieldType.int) 3 0 0 [.ref o, .int from0, .int to, .int v] G0 (fun r G' => r = some (.int (x4_loan (mt_now M) H from0 to v)) ∧ zMs g G0 G' o (ms_undoMany (ms_undos (ms_now M (x4_loan_now (mt_now M) H from0 to v)) (x4_loan_undos (mt_now M) (mt_undos M) H U from0 to v)) (x4_loan_undoMany (mt_now M) (mt_undoMany M) H U from0 to v))) := by
  unfold x4_loan x4_loan_now x4_loan_undos x4_loan_undoMany
  have hU2 := hU.2
  have hN2 := hN.2.1
  have hN4 := hN.2.2.2.1
  refine ZM_mk hG (by decide) (Nat.le_of_ble_eq_true rfl) ?_
  intro X hX hname hQ
  obtain ⟨G, hGe⟩ : ∃ z, z = G0 := ⟨_, rfl⟩
  have hM : zMs g G0 G o M := by rw [hGe]; exact zMs.rf hM
  show ZW g X 0 0 G0 0 [(0, .ref o), (1, .int from0), (2, .int to), (3, .int v)] []
  rw [← hGe]
  refine z_aload_n hX dX4_loan_0 1 rfl (i := 0) rfl 0 rfl ?_
  refine z_iload_n hX dX4_loan_1 2 rfl (i := 1) rfl 1 rfl ?_
  refine z_callVp hX cwX4_237 (w := .int (if zin from0 H then 1 else 0 : Int32)) (met_X4_isHouse hG hM.1 hN from0) hM.1.o rfl rfl dX4_loan_2 5 rfl rfl rfl (Nat.le_of_ble_eq_true rfl) (by decide) ⟨Nat.zero_le _, Nat.zero_le _⟩ ?_
  have J2 : ∀ G : zHG, zMs g G0 G o (ms_undoMany (ms_undos (ms_now M (if zin from0 H then if zin to H then if from0.toNatClampNeg = to.toNatClampNeg then mt_now M else if zin v 1000 then if (mt_now M (64 + (6 * from0.toNatClampNeg) + to.toNatClampNeg)) = (nI v.toNatClampNeg) then mt_now M else x4_puts_now (mt_now M) (64 + (6 * from0.toNatClampNeg) + to.toNatClampNeg) (nI v.toNatClampNeg) else mt_now M else mt_now M else mt_now M)) (if zin from0 H then if zin to H then if from0.toNatClampNeg = to.toNatClampNeg then mt_undos M else if zin v 1000 then if (mt_now M (64 + (6 * from0.toNatClampNeg) + to.toNatClampNeg)) = (nI v.toNatClampNeg) then mt_undos M else x4_puts_undos (mt_now M) (mt_undos M) U (64 + (6 * from0.toNatClampNeg) + to.toNatClampNeg) (nI v.toNatClampNeg) else mt_undos M else mt_undos M else mt_undos M)) (if zin from0 H then if zin to H then if from0.toNatClampNeg = to.toNatClampNeg then mt_undoMany M else if zin v 1000 then if (mt_now M (64 + (6 * from0.toNatClampNeg) + to.toNatClampNeg)) = (nI v.toNatClampNeg) then mt_undoMany M else x4_puts_undoMany U (64 + (6 * from0.toNatClampNeg) + to.toNatClampNeg) (nI v.toNatClampNeg) else mt_undoMany M else mt_undoMany M else mt_undoMany M)) → ZW g X 0 0 G 60 [(0, .ref o)] [.int (if zin from0 H then (if zin to H then (if from0.toNatClampNeg = to.toNatClampNeg then (-1) else (if zin v 1000 then (if (mt_now M (64 + (6 * from0.toNatClampNeg) + to.toNatClampNeg)) = (nI v.toNatClampNeg) then (-1) else x4_puts (mt_now M) (64 + (6 * from0.toNatClampNeg) + to.toNatClampNeg) (nI v.toNatClampNeg) : Int32) else (-1) : Int32) : Int32) else (-1) : Int32) else (-1) : Int32)] := by
    intro G hM
    exact z_iret hX hQ (Nat.zero_le _) (Nat.zero_le _) rfl dX4_loan_60 ⟨rfl, hM⟩
  refine z_if_eqP hX (zin from0 H) dX4_loan_5 8 rfl (tgt := 59) (by decide) (fun c1 => ?_) (fun c1 => ?_)
  ·
    refine z_iconst hX dX4_loan_59 60 rfl zki_m1 ?_
    refine z_sub [0] rfl ?_
    exact z_eqL rfl (by first | (simp only [if_neg c1] <;> rfl; done) | grind) (J2 _ (by first | (simpa only [if_neg c1, me_now, me_undos, me_undoMany] using hM) | (simpa only [if_neg c1, me2_now, me2_undos, me2_undoMany, mg_undos_now, mg_undoMany_now, mg_undoMany_undos] using hM)))
  ·
    have e_from0 := zin_eq c1
    have l_from0 := zin_lt c1
    refine z_eqL (L' := [(0, .ref o), (1, .int (nI from0.toNatClampNeg)), (2, .int to), (3, .int v)]) (st' := []) (by rw [← e_from0]) (by first | rfl | rw [← e_from0]) ?_
    refine z_aload_n hX dX4_loan_8 9 rfl (i := 0) rfl 0 rfl ?_
    refine z_iload_n hX dX4_loan_9 10 rfl (i := 2) rfl 2 rfl ?_
    refine z_callVp hX cwX4_237 (w := .int (if zin to H then 1 else 0 : Int32)) (met_X4_isHouse hG hM.1 hN to) hM.1.o rfl rfl dX4_loan_10 13 rfl rfl rfl (Nat.le_of_ble_eq_true rfl) (by decide) ⟨Nat.zero_le _, Nat.zero_le _⟩ ?_
    refine z_if_eqP hX (zin to H) dX4_loan_13 16 rfl (tgt := 59) (by decide) (fun c3 => ?_) (fun c3 => ?_)
    ·
      refine z_iconst hX dX4_loan_59 60 rfl zki_m1 ?_
      refine z_sub [0] rfl ?_
      exact z_eqL rfl (by first | (simp only [if_pos c1, if_neg c3] <;> rfl; done) | grind) (J2 _ (by first | (simpa only [if_pos c1, if_neg c3, me_now, me_undos, me_undoMany] using hM) | (simpa only [if_pos c1, if_neg c3, me2_now, me2_undos, me2_undoMany, mg_undos_now, mg_undoMany_now, mg_undoMany_undos] using hM)))
    ·
      have e_to := zin_eq c3
      have l_to := zin_lt c3
      refine z_eqL (L' := [(0, .ref o), (1, .int (nI from0.toNatClampNeg)), (2, .int (nI to.toNatClampNeg)), (3, .int v)]) (st' := []) (by rw [← e_to]) (by first | rfl | rw [← e_to]) ?_
      refine z_iload_n hX dX4_loan_16 17 rfl (i := 1) rfl 1 rfl ?_
      refine z_iload_n hX dX4_loan_17 18 rfl (i := 2) rfl 2 rfl ?_
      refine z_icmp_eqN hX from0.toNatClampNeg to.toNatClampNeg (by omega) (by omega) dX4_loan_18 21 rfl (tgt := 59) (by decide) (fun c4 => ?_) (fun c4 => ?_)
      ·
        refine z_iconst hX dX4_loan_59 60 rfl zki_m1 ?_
        refine z_sub [0] rfl ?_
        exact z_eqL rfl (by first | (simp only [if_pos c1, if_pos c3, if_pos c4] <;> rfl; done) | grind) (J2 _ (by first | (simpa only [if_pos c1, if_pos c3, if_pos c4, me_now, me_undos, me_undoMany] using hM) | (simpa only [if_pos c1, if_pos c3, if_pos c4, me2_now, me2_undos, me2_undoMany, mg_undos_now, mg_undoMany_now, mg_undoMany_undos] using hM)))
      ·
        refine z_iload_n hX dX4_loan_21 22 rfl (i := 3) rfl 3 rfl ?_
        refine z_iconst hX dX4_loan_22 23 rfl zki_0 ?_
        refine z_sipush hX dX4_loan_23 26 rfl zks_999 ?_
        refine z_callSp hX cwX4_68 (w := .int (if zin v 1000 then 1 else 0 : Int32)) (met_X4_isInz hG v 999 1000 (by decide)) dX4_loan_26 29 rfl rfl rfl (Nat.le_of_ble_eq_true rfl) (by decide) ⟨Nat.zero_le _, Nat.zero_le _⟩ ?_
        refine z_if_eqP hX (zin v 1000) dX4_loan_29 32 rfl (tgt := 59) (by decide) (fun c5 => ?_) (fun c5 => ?_)
        ·
          refine z_iconst hX dX4_loan_59 60 rfl zki_m1 ?_
          refine z_sub [0] rfl ?_
          exact z_eqL rfl (by first | (simp only [if_pos c1, if_pos c3, if_neg c4, if_neg c5] <;> rfl; done) | grind) (J2 _ (by first | (simpa only [if_pos c1, if_pos c3, if_neg c4, if_neg c5, me_now, me_undos, me_undoMany] using hM) | (simpa only [if_pos c1, if_pos c3, if_neg c4, if_neg c5, me2_now, me2_undos, me2_undoMany, mg_undos_now, mg_undoMany_now, mg_undoMany_undos] using hM)))
        ·
          have e_v := zin_eq c5
          have l_v := zin_lt c5
          refine z_eqL (L' := [(0, .ref o), (1, .int (nI from0.toNatClampNeg)), (2, .int (nI to.toNatClampNeg)), (3, .int (nI v.toNatClampNeg))]) (st' := []) (by rw [← e_v]) (by first | rfl | rw [← e_v]) ?_
          refine z_aload_n hX dX4_loan_32 33 rfl (i := 0) rfl 0 rfl ?_
          refine z_iload_n hX dX4_loan_33 34 rfl (i := 1) rfl 1 rfl ?_
          refine z_iload_n hX dX4_loan_34 35 rfl (i := 2) rfl 2 rfl ?_
          refine z_callVp hX cwX4_181 (w := .int (mt_now M (64 + (6 * from0.toNatClampNeg) + to.toNatClampNeg))) (met_X4_loanOf hG hM.1 from0.toNatClampNeg to.toNatClampNeg (by omega) (by omega)) hM.1.o rfl rfl dX4_loan_35 38 rfl rfl rfl (Nat.le_of_ble_eq_true rfl) (by decide) ⟨Nat.zero_le _, Nat.zero_le _⟩ ?_
          refine z_iload_n hX dX4_loan_38 39 rfl (i := 3) rfl 3 rfl ?_
          refine z_icmp_eq hX dX4_loan_39 42 rfl (tgt := 59) (by decide) (fun c6 => ?_) (fun c6 => ?_)
          ·
            refine z_iconst hX dX4_loan_59 60 rfl zki_m1 ?_
            refine z_sub [0] rfl ?_
            exact z_eqL rfl (by first | (simp only [if_pos c1, if_pos c3, if_neg c4, if_pos c5, if_pos c6] <;> rfl; done) | grind) (J2 _ (by first | (simpa only [if_pos c1, if_pos c3, if_neg c4, if_pos c5, if_pos c6, me_now, me_undos, me_undoMany] using hM) | (simpa only [if_pos c1, if_pos c3, if_neg c4, if_pos c5, if_pos c6, me2_now, me2_undos, me2_undoMany, mg_undos_now, mg_undoMany_now, mg_undoMany_undos] using hM)))
          ·
            refine z_aload_n hX dX4_loan_42 43 rfl (i := 0) rfl 0 rfl ?_
            refine z_bipush hX dX4_loan_43 45 rfl zkb_64 ?_
            refine z_bipush hX dX4_loan_45 47 rfl zkb_6 ?_
            refine z_iload_n hX dX4_loan_47 48 rfl (i := 1) rfl 1 rfl ?_
            refine z_imul hX dX4_loan_48 49 rfl (w := nI (6 * from0.toNatClampNeg)) (pk_mul 6 from0.toNatClampNeg) ?_
            refine z_iadd hX dX4_loan_49 50 rfl (w := nI (64 + (6 * from0.toNatClampNeg))) (nI_add 64 (6 * from0.toNatClampNeg)) ?_
            refine z_iload_n hX dX4_loan_50 51 rfl (i := 2) rfl 2 rfl ?_
            refine z_iadd hX dX4_loan_51 52 rfl (w := nI (64 + (6 * from0.toNatClampNeg) + to.toNatClampNeg)) (nI_add (64 + (6 * from0.toNatClampNeg)) to.toNatClampNeg) ?_
            refine z_iload_n hX dX4_loan_52 53 rfl (i := 3) rfl 3 rfl ?_
            refine z_callVm hX cwX4_240 (w := .int (x4_puts (mt_now M) (64 + (6 * from0.toNatClampNeg) + to.toNatClampNeg) (nI v.toNatClampNeg))) (met_X4_puts hG hM.1 hU (64 + (6 * from0.toNatClampNeg) + to.toNatClampNeg) (nI v.toNatClampNeg) (by omega)) hM.1.o rfl rfl dX4_loan_53 56 rfl rfl rfl (Nat.le_of_ble_eq_true rfl) (by decide) ⟨Nat.zero_le _, Nat.zero_le _⟩ (fun G hhM => ?_)
            have hM := zMs.tr hM hhM
            have hM : zMs g G0 G o (ms_undoMany (ms_undos (ms_now M (x4_puts_now (mt_now M) (64 + (6 * from0.toNatClampNeg) + to.toNatClampNeg) (nI v.toNatClampNeg))) (x4_puts_undos (mt_now M) (mt_undos M) U (64 + (6 * from0.toNatClampNeg) + to.toNatClampNeg) (nI v.toNatClampNeg))) (x4_puts_undoMany U (64 + (6 * from0.toNatClampNeg) + to.toNatClampNeg) (nI v.toNatClampNeg))) := hM
            refine z_goto hX dX4_loan_56 (tgt := 60) (by decide) ?_
            refine z_sub [0] rfl ?_
            exact z_eqL rfl (by first | (simp only [if_pos c1, if_pos c3, if_neg c4, if_pos c5, if_neg c6] <;> rfl; done) | grind) (J2 _ (by first | (simpa only [if_pos c1, if_pos c3, if_neg c4, if_pos c5, if_neg c6, me_now, me_undos, me_undoMany] using hM) | (simpa only [if_pos c1, if_pos c3, if_neg c4, if_pos c5, if_neg c6, me2_now, me2_undos, me2_undoMany, mg_undos_now, mg_undoMany_now, mg_undoMany_undos] using hM)))
def x4_curve (m_now : Nat → Int32) (A : Nat) (asset : Int32) (what : Int32) (v : Int32) : Int32 := (if zin asset A then (if zin what 2 then (if (if what.toNatClampNeg = 0 then 1 else 0 : Int32) ≤ v ∧ v ≤ (nI (if what.toNatClampNeg = 0 then 200 else 9)) then (if what.toNatClampNeg = 0 then (if (m_now (2 + asset.toNatClampNeg)) = v then (-1) else x4_puts (m_now) (2 + asset.toNatClampNeg) v : Int32) else (if (m_now (6 + asset.toNatClampNeg)) = v then (-1) else x4_puts (m_now) (6 + asset.toNatClampNeg) v : Int32) : Int32) else (-1) : Int32) else (-1) : Int32) else (-1) : Int32)
def x4_curve_now (m_now : Nat → Int32) (A : Nat) (asset : Int32) (what : Int32) (v : Int32) : Nat → Int32 := if zin asset A then if zin what 2 then if (if what.toNatClampNeg = 0 then 1 else 0 : Int32) ≤ v ∧ v ≤ (nI (if what.toNatClampNeg = 0 then 200 else 9)) then if what.toNatClampNeg = 0 then if (m_now (2 + asset.toNatClampNeg)) = v then m_now else x4_puts_now (m_now) (2 + asset.toNatClampNeg) v else if (m_now (6 + asset.toNatClampNeg)) = v then m_now else x4_puts_now (m_now) (6 + asset.toNatClampNeg) v else m_now else m_now else m_now
def x4_curve_undos (m_now : Nat → Int32) (m_undos : Nat → Int32) (A : Nat) (U : Nat) (asset : Int32) (what : Int32) (v : Int32) : Nat → Int32 := if zin asset A then if zin what 2 then if (if what.toNatClampNeg = 0 then 1 else 0 : Int32) ≤ v ∧ v ≤ (nI (if what.toNatClampNeg = 0 then 200 else 9)) then if what.toNatClampNeg = 0 then if (m_now (2 + asset.toNatClampNeg)) = v then m_undos else x4_puts_undos (m_now) (m_undos) U (2 + asset.toNatClampNeg) v else if (m_now (6 + asset.toNatClampNeg)) = v then m_undos else x4_puts_undos (m_now) (m_undos) U (6 + asset.toNatClampNeg) v else m_undos else m_undos else m_undos
def x4_curve_undoMany (m_now : Nat → Int32) (m_undoMany : Int32) (A : Nat) (U : Nat) (asset : Int32) (what : Int32) (v : Int32) : Int32 := if zin asset A then if zin what 2 then if (if what.toNatClampNeg = 0 then 1 else 0 : Int32) ≤ v ∧ v ≤ (nI (if what.toNatClampNeg = 0 then 200 else 9)) then if what.toNatClampNeg = 0 then if (m_now (2 + asset.toNatClampNeg)) = v then m_undoMany else x4_puts_undoMany U (2 + asset.toNatClampNeg) v else if (m_now (6 + asset.toNatClampNeg)) = v then m_undoMany else x4_puts_undoMany U (6 + asset.toNatClampNeg) v else m_undoMany else m_undoMany else m_undoMany
set_option maxHeartbeats 4000000 in
theorem met_X4_curve {g : Zg} (hG : zG g) {G0 : zHG} {o : Nat} {M : MT} (hM : zMo g G0 o M) {A H : Nat} {K : Nat → Nat} (hN : zWf (mt_now M) A H K) {U : Nat} (hU : mt_undoMany M = nI U ∧ U ≤ 12) (asset : Int32) (what : Int32) (v : Int32)    : ZM g yX4_curve cX4_curve 5 (some FieldType.int) 3 0 0 [.ref o, .int asset, .int what, .int v] G0 (fun r G' => r = some (.int (x4_curve (mt_now M) A asset what v)) ∧ zMs g G0 G' o (ms_undoMany (ms_undos (ms_now M (x4_curve_now (mt_now M) A asset what v)) (x4_curve_undos (mt_now M) (mt_undos M) A U asset what v)) (x4_curve_undoMany (mt_now M) (mt_undoMany M) A U asset what v))) := by
  unfold x4_curve x4_curve_now x4_curve_undos x4_curve_undoMany
  have hU2 := hU.2
  have hN2 := hN.2.1
  have hN4 := hN.2.2.2.1
  refine ZM_mk hG (by decide) (Nat.le_of_ble_eq_true rfl) ?_
  intro X hX hname hQ
  obtain ⟨G, hGe⟩ : ∃ z, z = G0 := ⟨_, rfl⟩
  have hM : zMs g G0 G o M := by rw [hGe]; exact zMs.rf hM
  show ZW g X 0 0 G0 0 [(0, .ref o), (1, .int asset), (2, .int what), (3, .int v)] []
  rw [← hGe]
  refine z_aload_n hX dX4_curve_0 1 rfl (i := 0) rfl 0 rfl ?_
  refine z_iload_n hX dX4_curve_1 2 rfl (i := 1) rfl 1 rfl ?_
  refine z_callVp hX cwX4_224 (w := .int (if zin asset A then 1 else 0 : Int32)) (met_X4_isAsset hG hM.1 hN asset) hM.1.o rfl rfl dX4_curve_2 5 rfl rfl rfl (Nat.le_of_ble_eq_true rfl) (by decide) ⟨Nat.zero_le _, Nat.zero_le _⟩ ?_
  refine z_if_eqP hX (zin asset A) dX4_curve_5 8 rfl (tgt := 45) (by decide) (fun c1 => ?_) (fun c1 => ?_)
  ·
    refine z_iconst hX dX4_curve_45 46 rfl zki_m1 ?_
    exact z_iret hX hQ (Nat.zero_le _) (Nat.zero_le _) rfl dX4_curve_46 ⟨(by first | (simp only [if_neg c1] <;> rfl; done) | ((try simp only [if_neg c1]); rfl) | grind), (by first | (simpa only [if_neg c1, me_now, me_undos, me_undoMany] using hM) | (simpa only [if_neg c1, me2_now, me2_undos, me2_undoMany, mg_undos_now, mg_undoMany_now, mg_undoMany_undos] using hM) | ((try simp only [if_neg c1]); exact hM) | ((try simp only [if_neg c1]); simpa only [me_now, me_undos, me_undoMany] using hM))⟩
  ·
    have e_asset := zin_eq c1
    have l_asset := zin_lt c1
    refine z_eqL (L' := [(0, .ref o), (1, .int (nI asset.toNatClampNeg)), (2, .int what), (3, .int v)]) (st' := []) (by rw [← e_asset]) (by first | rfl | rw [← e_asset]) ?_
    refine z_iload_n hX dX4_curve_8 9 rfl (i := 2) rfl 2 rfl ?_
    refine z_iconst hX dX4_curve_9 10 rfl zki_0 ?_
    refine z_iconst hX dX4_curve_10 11 rfl zki_1 ?_
    refine z_callSp hX cwX4_68 (w := .int (if zin what 2 then 1 else 0 : Int32)) (met_X4_isInz hG what 1 2 (by decide)) dX4_curve_11 14 rfl rfl rfl (Nat.le_of_ble_eq_true rfl) (by decide) ⟨Nat.zero_le _, Nat.zero_le _⟩ ?_
    refine z_if_eqP hX (zin what 2) dX4_curve_14 17 rfl (tgt := 45) (by decide) (fun c2 => ?_) (fun c2 => ?_)
    ·
      refine z_iconst hX dX4_curve_45 46 rfl zki_m1 ?_
      exact z_iret hX hQ (Nat.zero_le _) (Nat.zero_le _) rfl dX4_curve_46 ⟨(by first | (simp only [if_pos c1, if_neg c2] <;> rfl; done) | ((try simp only [if_pos c1]); (try simp only [if_neg c2]); rfl) | grind), (by first | (simpa only [if_pos c1, if_neg c2, me_now, me_undos, me_undoMany] using hM) | (simpa only [if_pos c1, if_neg c2, me2_now, me2_undos, me2_undoMany, mg_undos_now, mg_undoMany_now, mg_undoMany_undos] using hM) | ((try simp only [if_pos c1]); (try simp only [if_neg c2]); exact hM) | ((try simp only [if_pos c1]); (try simp only [if_neg c2]); simpa only [me_now, me_undos, me_undoMany] using hM))⟩
    ·
      have e_what := zin_eq c2
      have l_what := zin_lt c2
      refine z_eqL (L' := [(0, .ref o), (1, .int (nI asset.toNatClampNeg)), (2, .int (nI what.toNatClampNeg)), (3, .int v)]) (st' := []) (by rw [← e_what]) (by first | rfl | rw [← e_what]) ?_
      refine z_iload_n hX dX4_curve_17 18 rfl (i := 3) rfl 3 rfl ?_
      refine z_iload_n hX dX4_curve_18 19 rfl (i := 2) rfl 2 rfl ?_
      have J4 : ZW g X 0 0 G 27 [(0, .ref o), (1, .int (nI asset.toNatClampNeg)), (2, .int (nI what.toNatClampNeg)), (3, .int v)] [.int (if what.toNatClampNeg = 0 then 1 else 0 : Int32), .int v] := by
        refine z_iload_n hX dX4_curve_27 28 rfl (i := 2) rfl 2 rfl ?_
        have J6 : ZW g X 0 0 G 39 [(0, .ref o), (1, .int (nI asset.toNatClampNeg)), (2, .int (nI what.toNatClampNeg)), (3, .int v)] [.int (nI (if what.toNatClampNeg = 0 then 200 else 9)), .int (if what.toNatClampNeg = 0 then 1 else 0 : Int32), .int v] := by
          refine z_callSp hX cwX4_68 (w := .int (if (if what.toNatClampNeg = 0 then 1 else 0 : Int32) ≤ v ∧ v ≤ (nI (if what.toNatClampNeg = 0 then 200 else 9)) then 1 else 0 : Int32)) (met_X4_isIn hG v (if what.toNatClampNeg = 0 then 1 else 0 : Int32) (nI (if what.toNatClampNeg = 0 then 200 else 9))) dX4_curve_39 42 rfl rfl rfl (Nat.le_of_ble_eq_true rfl) (by decide) ⟨Nat.zero_le _, Nat.zero_le _⟩ ?_
          refine z_if_neP hX ((if what.toNatClampNeg = 0 then 1 else 0 : Int32) ≤ v ∧ v ≤ (nI (if what.toNatClampNeg = 0 then 200 else 9))) dX4_curve_42 45 rfl (tgt := 47) (by decide) (fun c7 => ?_) (fun c7 => ?_)
          ·
            refine z_iload_n hX dX4_curve_47 48 rfl (i := 2) rfl 2 rfl ?_
            refine z_if_neN hX what.toNatClampNeg (by omega) dX4_curve_48 51 rfl (tgt := 55) (by decide) (fun c8 => ?_) (fun c8 => ?_)
            ·
              refine z_bipush hX dX4_curve_55 57 rfl zkb_6 ?_
              refine z_iload_n hX dX4_curve_57 58 rfl (i := 1) rfl 1 rfl ?_
              refine z_iadd hX dX4_curve_58 59 rfl (w := nI (6 + asset.toNatClampNeg)) (nI_add 6 asset.toNatClampNeg) ?_
              refine z_istore hX dX4_curve_59 61 rfl (Nat.le_of_ble_eq_true rfl) rfl (L' := [(0, .ref o), (1, .int (nI asset.toNatClampNeg)), (2, .int (nI what.toNatClampNeg)), (3, .int v), (4, .int (nI (6 + asset.toNatClampNeg)))]) rfl ?_
              refine z_aload_n hX dX4_curve_61 62 rfl (i := 0) rfl 0 rfl ?_
              refine z_getf hX fX4_7 hM.1.o dX4_curve_62 65 rfl (x := .ref (o + 1)) rfl ?_
              refine z_iload hX dX4_curve_65 67 rfl 4 rfl ?_
              refine m_ald_now hX hM (6 + asset.toNatClampNeg) (by omega) dX4_curve_67 68 rfl (w := mt_now M (6 + asset.toNatClampNeg)) rfl ?_
              refine z_iload_n hX dX4_curve_68 69 rfl (i := 3) rfl 3 rfl ?_
              have J10 : ∀ G : zHG, zMs g G0 G o (ms_undoMany (ms_undos (ms_now M (if (mt_now M (6 + asset.toNatClampNeg)) = v then mt_now M else x4_puts_now (mt_now M) (6 + asset.toNatClampNeg) v)) (if (mt_now M (6 + asset.toNatClampNeg)) = v then mt_undos M else x4_puts_undos (mt_now M) (mt_undos M) U (6 + asset.toNatClampNeg) v)) (if (mt_now M (6 + asset.toNatClampNeg)) = v then mt_undoMany M else x4_puts_undoMany U (6 + asset.toNatClampNeg) v)) → ZW g X 0 0 G 83 [(0, .ref o), (1, .int (nI asset.toNatClampNeg)), (2, .int (nI what.toNatClampNeg)), (3, .int v), (4, .int (nI (6 + asset.toNatClampNeg)))] [.int (if (mt_now M (6 + asset.toNatClampNeg)) = v then (-1) else x4_puts (mt_now M) (6 + asset.toNatClampNeg) v : Int32)] := by
                intro G hM
                exact z_iret hX hQ (Nat.zero_le _) (Nat.zero_le _) rfl dX4_curve_83 ⟨(by first | (simp only [if_pos c1, if_pos c2, if_pos c7, if_neg c8] <;> rfl; done) | ((try simp only [if_pos c1]); (try simp only [if_pos c2]); (try simp only [if_pos c7]); (try simp only [if_neg c8]); rfl) | grind), (by first | (simpa only [if_pos c1, if_pos c2, if_pos c7, if_neg c8, me_now, me_undos, me_undoMany] using hM) | (simpa only [if_pos c1, if_pos c2, if_pos c7, if_neg c8, me2_now, me2_undos, me2_undoMany, mg_undos_now, mg_undoMany_now, mg_undoMany_undos] using hM) | ((try simp only [if_pos c1]); (try simp only [if_pos c2]); (try simp only [if_pos c7]); (try simp only [if_neg c8]); exact hM) | ((try simp only [if_pos c1]); (try simp only [if_pos c2]); (try simp only [if_pos c7]); (try simp only [if_neg c8]); simpa only [me_now, me_undos, me_undoMany] using hM))⟩
              refine z_icmp_ne hX dX4_curve_69 72 rfl (tgt := 76) (by decide) (fun c9 => ?_) (fun c9 => ?_)
              ·
                refine z_aload_n hX dX4_curve_76 77 rfl (i := 0) rfl 0 rfl ?_
                refine z_iload hX dX4_curve_77 79 rfl 4 rfl ?_
                refine z_iload_n hX dX4_curve_79 80 rfl (i := 3) rfl 3 rfl ?_
                refine z_callVm hX cwX4_240 (w := .int (x4_puts (mt_now M) (6 + asset.toNatClampNeg) v)) (met_X4_puts hG hM.1 hU (6 + asset.toNatClampNeg) v (by omega)) hM.1.o rfl rfl dX4_curve_80 83 rfl rfl rfl (Nat.le_of_ble_eq_true rfl) (by decide) ⟨Nat.zero_le _, Nat.zero_le _⟩ (fun G hhM => ?_)
                have hM := zMs.tr hM hhM
                have hM : zMs g G0 G o (ms_undoMany (ms_undos (ms_now M (x4_puts_now (mt_now M) (6 + asset.toNatClampNeg) v)) (x4_puts_undos (mt_now M) (mt_undos M) U (6 + asset.toNatClampNeg) v)) (x4_puts_undoMany U (6 + asset.toNatClampNeg) v)) := hM
                exact z_eqL rfl (by first | (simp only [if_pos c1, if_pos c2, if_pos c7, if_neg c8, if_neg c9] <;> rfl; done) | ((try simp only [if_pos c1]); (try simp only [if_pos c2]); (try simp only [if_pos c7]); (try simp only [if_neg c8]); (try simp only [if_neg c9]); rfl) | grind) (J10 _ (by first | (simpa only [if_pos c1, if_pos c2, if_pos c7, if_neg c8, if_neg c9, me_now, me_undos, me_undoMany] using hM) | (simpa only [if_pos c1, if_pos c2, if_pos c7, if_neg c8, if_neg c9, me2_now, me2_undos, me2_undoMany, mg_undos_now, mg_undoMany_now, mg_undoMany_undos] using hM) | ((try simp only [if_pos c1]); (try simp only [if_pos c2]); (try simp only [if_pos c7]); (try simp only [if_neg c8]); (try simp only [if_neg c9]); exact hM) | ((try simp only [if_pos c1]); (try simp only [if_pos c2]); (try simp only [if_pos c7]); (try simp only [if_neg c8]); (try simp only [if_neg c9]); simpa only [me_now, me_undos, me_undoMany] using hM)))
              ·
                refine z_iconst hX dX4_curve_72 73 rfl zki_m1 ?_
                refine z_goto hX dX4_curve_73 (tgt := 83) (by decide) ?_
                exact z_eqL rfl (by first | (simp only [if_pos c1, if_pos c2, if_pos c7, if_neg c8, if_pos c9] <;> rfl; done) | ((try simp only [if_pos c1]); (try simp only [if_pos c2]); (try simp only [if_pos c7]); (try simp only [if_neg c8]); (try simp only [if_pos c9]); rfl) | grind) (J10 _ (by first | (simpa only [if_pos c1, if_pos c2, if_pos c7, if_neg c8, if_pos c9, me_now, me_undos, me_undoMany] using hM) | (simpa only [if_pos c1, if_pos c2, if_pos c7, if_neg c8, if_pos c9, me2_now, me2_undos, me2_undoMany, mg_undos_now, mg_undoMany_now, mg_undoMany_undos] using hM) | ((try simp only [if_pos c1]); (try simp only [if_pos c2]); (try simp only [if_pos c7]); (try simp only [if_neg c8]); (try simp only [if_pos c9]); exact hM) | ((try simp only [if_pos c1]); (try simp only [if_pos c2]); (try simp only [if_pos c7]); (try simp only [if_neg c8]); (try simp only [if_pos c9]); simpa only [me_now, me_undos, me_undoMany] using hM)))
            ·
              refine z_iconst hX dX4_curve_51 52 rfl zki_2 ?_
              refine z_goto hX dX4_curve_52 (tgt := 57) (by decide) ?_
              refine z_iload_n hX dX4_curve_57 58 rfl (i := 1) rfl 1 rfl ?_
              refine z_iadd hX dX4_curve_58 59 rfl (w := nI (2 + asset.toNatClampNeg)) (nI_add 2 asset.toNatClampNeg) ?_
              refine z_istore hX dX4_curve_59 61 rfl (Nat.le_of_ble_eq_true rfl) rfl (L' := [(0, .ref o), (1, .int (nI asset.toNatClampNeg)), (2, .int (nI what.toNatClampNeg)), (3, .int v), (4, .int (nI (2 + asset.toNatClampNeg)))]) rfl ?_
              refine z_aload_n hX dX4_curve_61 62 rfl (i := 0) rfl 0 rfl ?_
              refine z_getf hX fX4_7 hM.1.o dX4_curve_62 65 rfl (x := .ref (o + 1)) rfl ?_
              refine z_iload hX dX4_curve_65 67 rfl 4 rfl ?_
              refine m_ald_now hX hM (2 + asset.toNatClampNeg) (by omega) dX4_curve_67 68 rfl (w := mt_now M (2 + asset.toNatClampNeg)) rfl ?_
              refine z_iload_n hX dX4_curve_68 69 rfl (i := 3) rfl 3 rfl ?_
              have J12 : ∀ G : zHG, zMs g G0 G o (ms_undoMany (ms_undos (ms_now M (if (mt_now M (2 + asset.toNatClampNeg)) = v then mt_now M else x4_puts_now (mt_now M) (2 + asset.toNatClampNeg) v)) (if (mt_now M (2 + asset.toNatClampNeg)) = v then mt_undos M else x4_puts_undos (mt_now M) (mt_undos M) U (2 + asset.toNatClampNeg) v)) (if (mt_now M (2 + asset.toNatClampNeg)) = v then mt_undoMany M else x4_puts_undoMany U (2 + asset.toNatClampNeg) v)) → ZW g X 0 0 G 83 [(0, .ref o), (1, .int (nI asset.toNatClampNeg)), (2, .int (nI what.toNatClampNeg)), (3, .int v), (4, .int (nI (2 + asset.toNatClampNeg)))] [.int (if (mt_now M (2 + asset.toNatClampNeg)) = v then (-1) else x4_puts (mt_now M) (2 + asset.toNatClampNeg) v : Int32)] := by
                intro G hM
                exact z_iret hX hQ (Nat.zero_le _) (Nat.zero_le _) rfl dX4_curve_83 ⟨(by first | (simp only [if_pos c1, if_pos c2, if_pos c7, if_pos c8] <;> rfl; done) | ((try simp only [if_pos c1]); (try simp only [if_pos c2]); (try simp only [if_pos c7]); (try simp only [if_pos c8]); rfl) | grind), (by first | (simpa only [if_pos c1, if_pos c2, if_pos c7, if_pos c8, me_now, me_undos, me_undoMany] using hM) | (simpa only [if_pos c1, if_pos c2, if_pos c7, if_pos c8, me2_now, me2_undos, me2_undoMany, mg_undos_now, mg_undoMany_now, mg_undoMany_undos] using hM) | ((try simp only [if_pos c1]); (try simp only [if_pos c2]); (try simp only [if_pos c7]); (try simp only [if_pos c8]); exact hM) | ((try simp only [if_pos c1]); (try simp only [if_pos c2]); (try simp only [if_pos c7]); (try simp only [if_pos c8]); simpa only [me_now, me_undos, me_undoMany] using hM))⟩
              refine z_icmp_ne hX dX4_curve_69 72 rfl (tgt := 76) (by decide) (fun c11 => ?_) (fun c11 => ?_)
              ·
                refine z_aload_n hX dX4_curve_76 77 rfl (i := 0) rfl 0 rfl ?_
                refine z_iload hX dX4_curve_77 79 rfl 4 rfl ?_
                refine z_iload_n hX dX4_curve_79 80 rfl (i := 3) rfl 3 rfl ?_
                refine z_callVm hX cwX4_240 (w := .int (x4_puts (mt_now M) (2 + asset.toNatClampNeg) v)) (met_X4_puts hG hM.1 hU (2 + asset.toNatClampNeg) v (by omega)) hM.1.o rfl rfl dX4_curve_80 83 rfl rfl rfl (Nat.le_of_ble_eq_true rfl) (by decide) ⟨Nat.zero_le _, Nat.zero_le _⟩ (fun G hhM => ?_)
                have hM := zMs.tr hM hhM
                have hM : zMs g G0 G o (ms_undoMany (ms_undos (ms_now M (x4_puts_now (mt_now M) (2 + asset.toNatClampNeg) v)) (x4_puts_undos (mt_now M) (mt_undos M) U (2 + asset.toNatClampNeg) v)) (x4_puts_undoMany U (2 + asset.toNatClampNeg) v)) := hM
                exact z_eqL rfl (by first | (simp only [if_pos c1, if_pos c2, if_pos c7, if_pos c8, if_neg c11] <;> rfl; done) | ((try simp only [if_pos c1]); (try simp only [if_pos c2]); (try simp only [if_pos c7]); (try simp only [if_pos c8]); (try simp only [if_neg c11]); rfl) | grind) (J12 _ (by first | (simpa only [if_pos c1, if_pos c2, if_pos c7, if_pos c8, if_neg c11, me_now, me_undos, me_undoMany] using hM) | (simpa only [if_pos c1, if_pos c2, if_pos c7, if_pos c8, if_neg c11, me2_now, me2_undos, me2_undoMany, mg_undos_now, mg_undoMany_now, mg_undoMany_undos] using hM) | ((try simp only [if_pos c1]); (try simp only [if_pos c2]); (try simp only [if_pos c7]); (try simp only [if_pos c8]); (try simp only [if_neg c11]); exact hM) | ((try simp only [if_pos c1]); (try simp only [if_pos c2]); (try simp only [if_pos c7]); (try simp only [if_pos c8]); (try simp only [if_neg c11]); simpa only [me_now, me_undos, me_undoMany] using hM)))
              ·
                refine z_iconst hX dX4_curve_72 73 rfl zki_m1 ?_
                refine z_goto hX dX4_curve_73 (tgt := 83) (by decide) ?_
                exact z_eqL rfl (by first | (simp only [if_pos c1, if_pos c2, if_pos c7, if_pos c8, if_pos c11] <;> rfl; done) | ((try simp only [if_pos c1]); (try simp only [if_pos c2]); (try simp only [if_pos c7]); (try simp only [if_pos c8]); (try simp only [if_pos c11]); rfl) | grind) (J12 _ (by first | (simpa only [if_pos c1, if_pos c2, if_pos c7, if_pos c8, if_pos c11, me_now, me_undos, me_undoMany] using hM) | (simpa only [if_pos c1, if_pos c2, if_pos c7, if_pos c8, if_pos c11, me2_now, me2_undos, me2_undoMany, mg_undos_now, mg_undoMany_now, mg_undoMany_undos] using hM) | ((try simp only [if_pos c1]); (try simp only [if_pos c2]); (try simp only [if_pos c7]); (try simp only [if_pos c8]); (try simp only [if_pos c11]); exact hM) | ((try simp only [if_pos c1]); (try simp only [if_pos c2]); (try simp only [if_pos c7]); (try simp only [if_pos c8]); (try simp only [if_pos c11]); simpa only [me_now, me_undos, me_undoMany] using hM)))
          ·
            refine z_iconst hX dX4_curve_45 46 rfl zki_m1 ?_
            exact z_iret hX hQ (Nat.zero_le _) (Nat.zero_le _) rfl dX4_curve_46 ⟨(by first | (simp only [if_pos c1, if_pos c2, if_neg c7] <;> rfl; done) | ((try simp only [if_pos c1]); (try simp only [if_pos c2]); (try simp only [if_neg c7]); rfl) | grind), (by first | (simpa only [if_pos c1, if_pos c2, if_neg c7, me_now, me_undos, me_undoMany] using hM) | (simpa only [if_pos c1, if_pos c2, if_neg c7, me2_now, me2_undos, me2_undoMany, mg_undos_now, mg_undoMany_now, mg_undoMany_undos] using hM) | ((try simp only [if_pos c1]); (try simp only [if_pos c2]); (try simp only [if_neg c7]); exact hM) | ((try simp only [if_pos c1]); (try simp only [if_pos c2]); (try simp only [if_neg c7]); simpa only [me_now, me_undos, me_undoMany] using hM))⟩
        refine z_if_neN hX what.toNatClampNeg (by omega) dX4_curve_28 31 rfl (tgt := 37) (by decide) (fun c5 => ?_) (fun c5 => ?_)
        ·
          refine z_bipush hX dX4_curve_37 39 rfl zkb_9 ?_
          exact z_eqL rfl (by first | (simp only [if_pos c1, if_pos c2, if_neg c5] <;> rfl; done) | ((try simp only [if_pos c1]); (try simp only [if_pos c2]); (try simp only [if_neg c5]); rfl) | grind) J6
        ·
          refine z_sipush hX dX4_curve_31 34 rfl zks_200 ?_
          refine z_goto hX dX4_curve_34 (tgt := 39) (by decide) ?_
          exact z_eqL rfl (by first | (simp only [if_pos c1, if_pos c2, if_pos c5] <;> rfl; done) | ((try simp only [if_pos c1]); (try simp only [if_pos c2]); (try simp only [if_pos c5]); rfl) | grind) J6
      refine z_if_neN hX what.toNatClampNeg (by omega) dX4_curve_19 22 rfl (tgt := 26) (by decide) (fun c3 => ?_) (fun c3 => ?_)
      ·
        refine z_iconst hX dX4_curve_26 27 rfl zki_0 ?_
        exact z_eqL rfl (by first | (simp only [if_pos c1, if_pos c2, if_neg c3] <;> rfl; done) | ((try simp only [if_pos c1]); (try simp only [if_pos c2]); (try simp only [if_neg c3]); rfl) | grind) J4
      ·
        refine z_iconst hX dX4_curve_22 23 rfl zki_1 ?_
        refine z_goto hX dX4_curve_23 (tgt := 27) (by decide) ?_
        exact z_eqL rfl (by first | (simp only [if_pos c1, if_pos c2, if_pos c3] <;> rfl; done) | ((try simp only [if_pos c1]); (try simp only [if_pos c2]); (try simp only [if_pos c3]); rfl) | grind) J4
def x4_lays_now (m_now : Nat → Int32) (K : Nat → Nat) (shelf : Nat) (kind : Int32) (a : Int32) (v : Int32) : Nat → Int32 := upd (upd (upd (upd (m_now) (100 + (13 * shelf) + 1 + (3 * (K shelf))) kind) (100 + (13 * shelf) + 1 + (3 * (K shelf)) + 1) a) (100 + (13 * shelf) + 1 + (3 * (K shelf)) + 2) v) (100 + (13 * shelf)) (nI (K shelf + 1))
set_option maxHeartbeats 4000000 in
theorem met_X4_lays {g : Zg} (hG : zG g) {G0 : zHG} {o : Nat} {M : MT} (hM : zMo g G0 o M) {A H : Nat} {K : Nat → Nat} (hN : zWf (mt_now M) A H K) (shelf : Nat) (kind : Int32) (a : Int32) (v : Int32)  (h_shelf : shelf < 3) (hf0 : K shelf < 4) : ZM g yX4_lays cX4_lays 7 none 1 0 0 [.ref o, .int (nI shelf), .int kind, .int a, .int v] G0 (fun r G' => r = none ∧ zMs g G0 G' o (ms_now M (x4_lays_now (mt_now M) K shelf kind a v))) := by
  unfold x4_lays_now
  have hN2 := hN.2.1
  have hN4 := hN.2.2.2.1
  refine ZM_mk hG (by decide) (Nat.le_of_ble_eq_true rfl) ?_
  intro X hX hname hQ
  obtain ⟨G, hGe⟩ : ∃ z, z = G0 := ⟨_, rfl⟩
  have hM : zMs g G0 G o M := by rw [hGe]; exact zMs.rf hM
  show ZW g X 0 0 G0 0 [(0, .ref o), (1, .int (nI shelf)), (2, .int kind), (3, .int a), (4, .int v)] []
  rw [← hGe]
  refine z_bipush hX dX4_lays_0 2 rfl zkb_100 ?_
  refine z_bipush hX dX4_lays_2 4 rfl zkb_13 ?_
  refine z_iload_n hX dX4_lays_4 5 rfl (i := 1) rfl 1 rfl ?_
  refine z_imul hX dX4_lays_5 6 rfl (w := nI (13 * shelf)) (pk_mul 13 shelf) ?_
  refine z_iadd hX dX4_lays_6 7 rfl (w := nI (100 + (13 * shelf))) (nI_add 100 (13 * shelf)) ?_
  refine z_istore hX dX4_lays_7 9 rfl (Nat.le_of_ble_eq_true rfl) rfl (L' := [(0, .ref o), (1, .int (nI shelf)), (2, .int kind), (3, .int a), (4, .int v), (5, .int (nI (100 + (13 * shelf))))]) rfl ?_
  refine z_iload hX dX4_lays_9 11 rfl 5 rfl ?_
  refine z_iconst hX dX4_lays_11 12 rfl zki_1 ?_
  refine z_iadd hX dX4_lays_12 13 rfl (w := nI (100 + (13 * shelf) + 1)) (nI_add (100 + (13 * shelf)) 1) ?_
  refine z_iconst hX dX4_lays_13 14 rfl zki_3 ?_
  refine z_aload_n hX dX4_lays_14 15 rfl (i := 0) rfl 0 rfl ?_
  refine z_getf hX fX4_7 hM.1.o dX4_lays_15 18 rfl (x := .ref (o + 1)) rfl ?_
  refine z_iload hX dX4_lays_18 20 rfl 5 rfl ?_
  have hKshelf := (hN.2.2.2.2.1 shelf (by omega)).2
  refine m_ald_now hX hM (100 + (13 * shelf)) (by omega) dX4_lays_20 21 rfl (w := nI (K shelf)) (hN.2.2.2.2.1 shelf (by omega)).1 ?_
  refine z_imul hX dX4_lays_21 22 rfl (w := nI (3 * (K shelf))) (pk_mul 3 (K shelf)) ?_
  refine z_iadd hX dX4_lays_22 23 rfl (w := nI (100 + (13 * shelf) + 1 + (3 * (K shelf)))) (nI_add (100 + (13 * shelf) + 1) (3 * (K shelf))) ?_
  refine z_istore hX dX4_lays_23 25 rfl (Nat.le_of_ble_eq_true rfl) rfl (L' := [(0, .ref o), (1, .int (nI shelf)), (2, .int kind), (3, .int a), (4, .int v), (5, .int (nI (100 + (13 * shelf)))), (6, .int (nI (100 + (13 * shelf) + 1 + (3 * (K shelf)))))]) rfl ?_
  refine z_aload_n hX dX4_lays_25 26 rfl (i := 0) rfl 0 rfl ?_
  refine z_getf hX fX4_7 hM.1.o dX4_lays_26 29 rfl (x := .ref (o + 1)) rfl ?_
  refine z_iload hX dX4_lays_29 31 rfl 6 rfl ?_
  refine z_iload_n hX dX4_lays_31 32 rfl (i := 2) rfl 2 rfl ?_
  refine m_ast_now hX hM (100 + (13 * shelf) + 1 + (3 * (K shelf))) (by omega) dX4_lays_32 33 rfl (fun G hM => ?_)
  have hM : zMs g G0 G o (ms_now M (upd (mt_now M) (100 + (13 * shelf) + 1 + (3 * (K shelf))) kind)) := hM
  refine z_aload_n hX dX4_lays_33 34 rfl (i := 0) rfl 0 rfl ?_
  refine z_getf hX fX4_7 hM.1.o dX4_lays_34 37 rfl (x := .ref (o + 1)) rfl ?_
  refine z_iload hX dX4_lays_37 39 rfl 6 rfl ?_
  refine z_iconst hX dX4_lays_39 40 rfl zki_1 ?_
  refine z_iadd hX dX4_lays_40 41 rfl (w := nI (100 + (13 * shelf) + 1 + (3 * (K shelf)) + 1)) (nI_add (100 + (13 * shelf) + 1 + (3 * (K shelf))) 1) ?_
  refine z_iload_n hX dX4_lays_41 42 rfl (i := 3) rfl 3 rfl ?_
  refine m_ast_now hX hM (100 + (13 * shelf) + 1 + (3 * (K shelf)) + 1) (by omega) dX4_lays_42 43 rfl (fun G hM => ?_)
  have hM : zMs g G0 G o (ms_now M (upd (upd (mt_now M) (100 + (13 * shelf) + 1 + (3 * (K shelf))) kind) (100 + (13 * shelf) + 1 + (3 * (K shelf)) + 1) a)) := by simpa only [mgs_now, mm_now] using hM
  refine z_aload_n hX dX4_lays_43 44 rfl (i := 0) rfl 0 rfl ?_
  refine z_getf hX fX4_7 hM.1.o dX4_lays_44 47 rfl (x := .ref (o + 1)) rfl ?_
  refine z_iload hX dX4_lays_47 49 rfl 6 rfl ?_
  refine z_iconst hX dX4_lays_49 50 rfl zki_2 ?_
  refine z_iadd hX dX4_lays_50 51 rfl (w := nI (100 + (13 * shelf) + 1 + (3 * (K shelf)) + 2)) (nI_add (100 + (13 * shelf) + 1 + (3 * (K shelf))) 2) ?_
  refine z_iload hX dX4_lays_51 53 rfl 4 rfl ?_
  refine m_ast_now hX hM (100 + (13 * shelf) + 1 + (3 * (K shelf)) + 2) (by omega) dX4_lays_53 54 rfl (fun G hM => ?_)
  have hM : zMs g G0 G o (ms_now M (upd (upd (upd (mt_now M) (100 + (13 * shelf) + 1 + (3 * (K shelf))) kind) (100 + (13 * shelf) + 1 + (3 * (K shelf)) + 1) a) (100 + (13 * shelf) + 1 + (3 * (K shelf)) + 2) v)) := by simpa only [mgs_now, mm_now] using hM
  refine z_aload_n hX dX4_lays_54 55 rfl (i := 0) rfl 0 rfl ?_
  refine z_getf hX fX4_7 hM.1.o dX4_lays_55 58 rfl (x := .ref (o + 1)) rfl ?_
  refine z_iload hX dX4_lays_58 60 rfl 5 rfl ?_
  refine z_dup2_11 hX dX4_lays_60 61 rfl rfl rfl ?_
  have hKshelf := (hN.2.2.2.2.1 shelf (by omega)).2
  refine m_ald_now hX hM (100 + (13 * shelf)) (by omega) dX4_lays_61 62 rfl (w := nI (K shelf)) ((congrFun (mgs_now _ _) (100 + (13 * shelf))).trans ((zpk_un (by omega)).trans ((zpk_un (by omega)).trans ((zpk_un (by omega)).trans (hN.2.2.2.2.1 shelf (by omega)).1)))) ?_
  refine z_iconst hX dX4_lays_62 63 rfl zki_1 ?_
  refine z_iadd hX dX4_lays_63 64 rfl (w := nI (K shelf + 1)) (nI_add (K shelf) 1) ?_
  refine m_ast_now hX hM (100 + (13 * shelf)) (by omega) dX4_lays_64 65 rfl (fun G hM => ?_)
  have hM : zMs g G0 G o (ms_now M (upd (upd (upd (upd (mt_now M) (100 + (13 * shelf) + 1 + (3 * (K shelf))) kind) (100 + (13 * shelf) + 1 + (3 * (K shelf)) + 1) a) (100 + (13 * shelf) + 1 + (3 * (K shelf)) + 2) v) (100 + (13 * shelf)) (nI (K shelf + 1)))) := by simpa only [mgs_now, mm_now] using hM
  exact z_vret hX hQ (Nat.zero_le _) (Nat.zero_le _) rfl dX4_lays_65 ⟨rfl, hM⟩
def x4_lay (m_now : Nat → Int32) (A : Nat) (K : Nat → Nat) (shelf : Int32) (kind : Int32) (asset : Int32) (v : Int32) : Int32 := (if zin shelf 3 then (if zin kind 2 then (if zin asset A then (if 0 ≤ v ∧ v ≤ (nI (if kind.toNatClampNeg = 0 then 360 else 200)) then (if 2 ≤ shelf.toNatClampNeg then (if K shelf.toNatClampNeg = 4 then (-3) else ((x4_lays_now (m_now) K shelf.toNatClampNeg (nI kind.toNatClampNeg) (nI asset.toNatClampNeg) v) (100 + (13 * shelf.toNatClampNeg))) - 1 : Int32) else (if shelf.toNatClampNeg = kind.toNatClampNeg then (if K shelf.toNatClampNeg = 4 then (-3) else ((x4_lays_now (m_now) K shelf.toNatClampNeg (nI kind.toNatClampNeg) (nI asset.toNatClampNeg) v) (100 + (13 * shelf.toNatClampNeg))) - 1 : Int32) else (-2) : Int32) : Int32) else (-1) : Int32) else (-1) : Int32) else (-1) : Int32) else (-1) : Int32)
def x4_lay_now (m_now : Nat → Int32) (A : Nat) (K : Nat → Nat) (shelf : Int32) (kind : Int32) (asset : Int32) (v : Int32) : Nat → Int32 := if zin shelf 3 then if zin kind 2 then if zin asset A then if 0 ≤ v ∧ v ≤ (nI (if kind.toNatClampNeg = 0 then 360 else 200)) then if 2 ≤ shelf.toNatClampNeg then if K shelf.toNatClampNeg = 4 then m_now else x4_lays_now (m_now) K shelf.toNatClampNeg (nI kind.toNatClampNeg) (nI asset.toNatClampNeg) v else if shelf.toNatClampNeg = kind.toNatClampNeg then if K shelf.toNatClampNeg = 4 then m_now else x4_lays_now (m_now) K shelf.toNatClampNeg (nI kind.toNatClampNeg) (nI asset.toNatClampNeg) v else m_now else m_now else m_now else m_now else m_now
def x4_lay_undos (m_now : Nat → Int32) (m_undos : Nat → Int32) (A : Nat) (K : Nat → Nat) (U : Nat) (shelf : Int32) (kind : Int32) (asset : Int32) (v : Int32) : Nat → Int32 := if zin shelf 3 then if zin kind 2 then if zin asset A then if 0 ≤ v ∧ v ≤ (nI (if kind.toNatClampNeg = 0 then 360 else 200)) then if 2 ≤ shelf.toNatClampNeg then if K shelf.toNatClampNeg = 4 then m_undos else x4_remembers_undos (m_now) (m_undos) U else if shelf.toNatClampNeg = kind.toNatClampNeg then if K shelf.toNatClampNeg = 4 then m_undos else x4_remembers_undos (m_now) (m_undos) U else m_undos else m_undos else m_undos else m_undos else m_undos
def x4_lay_undoMany (m_undoMany : Int32) (A : Nat) (K : Nat → Nat) (U : Nat) (shelf : Int32) (kind : Int32) (asset : Int32) (v : Int32) : Int32 := if zin shelf 3 then if zin kind 2 then if zin asset A then if 0 ≤ v ∧ v ≤ (nI (if kind.toNatClampNeg = 0 then 360 else 200)) then if 2 ≤ shelf.toNatClampNeg then if K shelf.toNatClampNeg = 4 then m_undoMany else x4_remembers_undoMany U else if shelf.toNatClampNeg = kind.toNatClampNeg then if K shelf.toNatClampNeg = 4 then m_undoMany else x4_remembers_undoMany U else m_undoMany else m_undoMany else m_undoMany else m_undoMany else m_undoMany
set_option maxHeartbeats 4000000 in
theorem met_X4_lay {g : Zg} (hG : zG g) {G0 : zHG} {o : Nat} {M : MT} (hM : zMo g G0 o M) {A H : Nat} {K : Nat → Nat} (hN : zWf (mt_now M) A H K) {U : Nat} (hU : mt_undoMany M = nI U ∧ U ≤ 12) (shelf : Int32) (kind : Int32) (asset : Int32) (v : Int32)    : ZM g yX4_lay cX4_lay 5 (some FieldType.int) 3 0 0 [.ref o, .int shelf, .int kind, .int asset, .int v] G0 (fun r G' => r = some (.int (x4_lay (mt_now M) A K shelf kind asset v)) ∧ zMs g G0 G' o (ms_undoMany (ms_undos (ms_now M (x4_lay_now (mt_now M) A K shelf kind asset v)) (x4_lay_undos (mt_now M) (mt_undos M) A K U shelf kind asset v)) (x4_lay_undoMany (mt_undoMany M) A K U shelf kind asset v))) := by
  unfold x4_lay x4_lay_now x4_lay_undos x4_lay_undoMany
  have hU2 := hU.2
  have hN2 := hN.2.1
  have hN4 := hN.2.2.2.1
  refine ZM_mk hG (by decide) (Nat.le_of_ble_eq_true rfl) ?_
  intro X hX hname hQ
  obtain ⟨G, hGe⟩ : ∃ z, z = G0 := ⟨_, rfl⟩
  have hM : zMs g G0 G o M := by rw [hGe]; exact zMs.rf hM
  show ZW g X 0 0 G0 0 [(0, .ref o), (1, .int shelf), (2, .int kind), (3, .int asset), (4, .int v)] []
  rw [← hGe]
  refine z_iload_n hX dX4_lay_0 1 rfl (i := 1) rfl 1 rfl ?_
  refine z_iconst hX dX4_lay_1 2 rfl zki_0 ?_
  refine z_iconst hX dX4_lay_2 3 rfl zki_2 ?_
  refine z_callSp hX cwX4_68 (w := .int (if zin shelf 3 then 1 else 0 : Int32)) (met_X4_isInz hG shelf 2 3 (by decide)) dX4_lay_3 6 rfl rfl rfl (Nat.le_of_ble_eq_true rfl) (by decide) ⟨Nat.zero_le _, Nat.zero_le _⟩ ?_
  refine z_if_eqP hX (zin shelf 3) dX4_lay_6 9 rfl (tgt := 48) (by decide) (fun c1 => ?_) (fun c1 => ?_)
  ·
    refine z_iconst hX dX4_lay_48 49 rfl zki_m1 ?_
    exact z_iret hX hQ (Nat.zero_le _) (Nat.zero_le _) rfl dX4_lay_49 ⟨(by first | (simp only [if_neg c1] <;> rfl; done) | ((try simp only [if_neg c1]); rfl) | grind), (by first | (simpa only [if_neg c1, me_now, me_undos, me_undoMany] using hM) | (simpa only [if_neg c1, me2_now, me2_undos, me2_undoMany, mg_undos_now, mg_undoMany_now, mg_undoMany_undos] using hM) | ((try simp only [if_neg c1]); exact hM) | ((try simp only [if_neg c1]); simpa only [me_now, me_undos, me_undoMany] using hM))⟩
  ·
    have e_shelf := zin_eq c1
    have l_shelf := zin_lt c1
    refine z_eqL (L' := [(0, .ref o), (1, .int (nI shelf.toNatClampNeg)), (2, .int kind), (3, .int asset), (4, .int v)]) (st' := []) (by rw [← e_shelf]) (by first | rfl | rw [← e_shelf]) ?_
    refine z_iload_n hX dX4_lay_9 10 rfl (i := 2) rfl 2 rfl ?_
    refine z_iconst hX dX4_lay_10 11 rfl zki_0 ?_
    refine z_iconst hX dX4_lay_11 12 rfl zki_1 ?_
    refine z_callSp hX cwX4_68 (w := .int (if zin kind 2 then 1 else 0 : Int32)) (met_X4_isInz hG kind 1 2 (by decide)) dX4_lay_12 15 rfl rfl rfl (Nat.le_of_ble_eq_true rfl) (by decide) ⟨Nat.zero_le _, Nat.zero_le _⟩ ?_
    refine z_if_eqP hX (zin kind 2) dX4_lay_15 18 rfl (tgt := 48) (by decide) (fun c2 => ?_) (fun c2 => ?_)
    ·
      refine z_iconst hX dX4_lay_48 49 rfl zki_m1 ?_
      exact z_iret hX hQ (Nat.zero_le _) (Nat.zero_le _) rfl dX4_lay_49 ⟨(by first | (simp only [if_pos c1, if_neg c2] <;> rfl; done) | ((try simp only [if_pos c1]); (try simp only [if_neg c2]); rfl) | grind), (by first | (simpa only [if_pos c1, if_neg c2, me_now, me_undos, me_undoMany] using hM) | (simpa only [if_pos c1, if_neg c2, me2_now, me2_undos, me2_undoMany, mg_undos_now, mg_undoMany_now, mg_undoMany_undos] using hM) | ((try simp only [if_pos c1]); (try simp only [if_neg c2]); exact hM) | ((try simp only [if_pos c1]); (try simp only [if_neg c2]); simpa only [me_now, me_undos, me_undoMany] using hM))⟩
    ·
      have e_kind := zin_eq c2
      have l_kind := zin_lt c2
      refine z_eqL (L' := [(0, .ref o), (1, .int (nI shelf.toNatClampNeg)), (2, .int (nI kind.toNatClampNeg)), (3, .int asset), (4, .int v)]) (st' := []) (by rw [← e_kind]) (by first | rfl | rw [← e_kind]) ?_
      refine z_aload_n hX dX4_lay_18 19 rfl (i := 0) rfl 0 rfl ?_
      refine z_iload_n hX dX4_lay_19 20 rfl (i := 3) rfl 3 rfl ?_
      refine z_callVp hX cwX4_224 (w := .int (if zin asset A then 1 else 0 : Int32)) (met_X4_isAsset hG hM.1 hN asset) hM.1.o rfl rfl dX4_lay_20 23 rfl rfl rfl (Nat.le_of_ble_eq_true rfl) (by decide) ⟨Nat.zero_le _, Nat.zero_le _⟩ ?_
      refine z_if_eqP hX (zin asset A) dX4_lay_23 26 rfl (tgt := 48) (by decide) (fun c3 => ?_) (fun c3 => ?_)
      ·
        refine z_iconst hX dX4_lay_48 49 rfl zki_m1 ?_
        exact z_iret hX hQ (Nat.zero_le _) (Nat.zero_le _) rfl dX4_lay_49 ⟨(by first | (simp only [if_pos c1, if_pos c2, if_neg c3] <;> rfl; done) | ((try simp only [if_pos c1]); (try simp only [if_pos c2]); (try simp only [if_neg c3]); rfl) | grind), (by first | (simpa only [if_pos c1, if_pos c2, if_neg c3, me_now, me_undos, me_undoMany] using hM) | (simpa only [if_pos c1, if_pos c2, if_neg c3, me2_now, me2_undos, me2_undoMany, mg_undos_now, mg_undoMany_now, mg_undoMany_undos] using hM) | ((try simp only [if_pos c1]); (try simp only [if_pos c2]); (try simp only [if_neg c3]); exact hM) | ((try simp only [if_pos c1]); (try simp only [if_pos c2]); (try simp only [if_neg c3]); simpa only [me_now, me_undos, me_undoMany] using hM))⟩
      ·
        have e_asset := zin_eq c3
        have l_asset := zin_lt c3
        refine z_eqL (L' := [(0, .ref o), (1, .int (nI shelf.toNatClampNeg)), (2, .int (nI kind.toNatClampNeg)), (3, .int (nI asset.toNatClampNeg)), (4, .int v)]) (st' := []) (by rw [← e_asset]) (by first | rfl | rw [← e_asset]) ?_
        refine z_iload hX dX4_lay_26 28 rfl 4 rfl ?_
        refine z_iconst hX dX4_lay_28 29 rfl zki_0 ?_
        refine z_iload_n hX dX4_lay_29 30 rfl (i := 2) rfl 2 rfl ?_
        have J5 : ZW g X 0 0 G 42 [(0, .ref o), (1, .int (nI shelf.toNatClampNeg)), (2, .int (nI kind.toNatClampNeg)), (3, .int (nI asset.toNatClampNeg)), (4, .int v)] [.int (nI (if kind.toNatClampNeg = 0 then 360 else 200)), .int 0, .int v] := by
          refine z_callSp hX cwX4_68 (w := .int (if 0 ≤ v ∧ v ≤ (nI (if kind.toNatClampNeg = 0 then 360 else 200)) then 1 else 0 : Int32)) (met_X4_isIn hG v 0 (nI (if kind.toNatClampNeg = 0 then 360 else 200))) dX4_lay_42 45 rfl rfl rfl (Nat.le_of_ble_eq_true rfl) (by decide) ⟨Nat.zero_le _, Nat.zero_le _⟩ ?_
          refine z_if_neP hX (0 ≤ v ∧ v ≤ (nI (if kind.toNatClampNeg = 0 then 360 else 200))) dX4_lay_45 48 rfl (tgt := 50) (by decide) (fun c6 => ?_) (fun c6 => ?_)
          ·
            refine z_iload_n hX dX4_lay_50 51 rfl (i := 1) rfl 1 rfl ?_
            refine z_iconst hX dX4_lay_51 52 rfl zki_2 ?_
            refine z_icmp_geN hX shelf.toNatClampNeg 2 (by omega) (by omega) dX4_lay_52 55 rfl (tgt := 63) (by decide) (fun c7 => ?_) (fun c7 => ?_)
            ·
              refine z_aload_n hX dX4_lay_63 64 rfl (i := 0) rfl 0 rfl ?_
              refine z_getf hX fX4_7 hM.1.o dX4_lay_64 67 rfl (x := .ref (o + 1)) rfl ?_
              refine z_bipush hX dX4_lay_67 69 rfl zkb_100 ?_
              refine z_bipush hX dX4_lay_69 71 rfl zkb_13 ?_
              refine z_iload_n hX dX4_lay_71 72 rfl (i := 1) rfl 1 rfl ?_
              refine z_imul hX dX4_lay_72 73 rfl (w := nI (13 * shelf.toNatClampNeg)) (pk_mul 13 shelf.toNatClampNeg) ?_
              refine z_iadd hX dX4_lay_73 74 rfl (w := nI (100 + (13 * shelf.toNatClampNeg))) (nI_add 100 (13 * shelf.toNatClampNeg)) ?_
              have hKshelf := (hN.2.2.2.2.1 shelf.toNatClampNeg (by omega)).2
              refine m_ald_now hX hM (100 + (13 * shelf.toNatClampNeg)) (by omega) dX4_lay_74 75 rfl (w := nI (K shelf.toNatClampNeg)) (hN.2.2.2.2.1 shelf.toNatClampNeg (by omega)).1 ?_
              refine z_iconst hX dX4_lay_75 76 rfl zki_4 ?_
              refine z_icmp_neN hX (K shelf.toNatClampNeg) 4 (by omega) (by omega) dX4_lay_76 79 rfl (tgt := 82) (by decide) (fun c8 => ?_) (fun c8 => ?_)
              ·
                refine z_aload_n hX dX4_lay_82 83 rfl (i := 0) rfl 0 rfl ?_
                refine z_callVv hX cwX4_234 (met_X4_remembers hG hM.1 hU) hM.1.o rfl rfl dX4_lay_83 86 rfl rfl rfl (Nat.le_of_ble_eq_true rfl) (by decide) ⟨Nat.zero_le _, Nat.zero_le _⟩ (fun G hhM => ?_)
                have hM := zMs.tr hM hhM
                have hM : zMs g G0 G o (ms_undoMany (ms_undos M (x4_remembers_undos (mt_now M) (mt_undos M) U)) (x4_remembers_undoMany U)) := hM
                refine z_aload_n hX dX4_lay_86 87 rfl (i := 0) rfl 0 rfl ?_
                refine z_iload_n hX dX4_lay_87 88 rfl (i := 1) rfl 1 rfl ?_
                refine z_iload_n hX dX4_lay_88 89 rfl (i := 2) rfl 2 rfl ?_
                refine z_iload_n hX dX4_lay_89 90 rfl (i := 3) rfl 3 rfl ?_
                refine z_iload hX dX4_lay_90 92 rfl 4 rfl ?_
                refine z_callVv hX cwX4_119 (met_X4_lays hG hM.1 (zWf_eq ((mg_now_undoMany _ _).trans (mg_now_undos _ _)) hN) shelf.toNatClampNeg (nI kind.toNatClampNeg) (nI asset.toNatClampNeg) v (by omega) (by first | assumption | omega)) hM.1.o rfl rfl dX4_lay_92 95 rfl rfl rfl (Nat.le_of_ble_eq_true rfl) (by decide) ⟨Nat.zero_le _, Nat.zero_le _⟩ (fun G hhM => ?_)
                have hM := zMs.tr hM hhM
                have hM : zMs g G0 G o (ms_undoMany (ms_undos (ms_now M (x4_lays_now (mt_now M) K shelf.toNatClampNeg (nI kind.toNatClampNeg) (nI asset.toNatClampNeg) v)) (x4_remembers_undos (mt_now M) (mt_undos M) U)) (x4_remembers_undoMany U)) := by simpa only [mg_now_undos, mg_now_undoMany, mc_now_undos, mc_now_undoMany, mm_now, mc_undos_undoMany, mm_undos, mm_undoMany] using hM
                refine z_aload_n hX dX4_lay_95 96 rfl (i := 0) rfl 0 rfl ?_
                refine z_getf hX fX4_7 hM.1.o dX4_lay_96 99 rfl (x := .ref (o + 1)) rfl ?_
                refine z_bipush hX dX4_lay_99 101 rfl zkb_100 ?_
                refine z_bipush hX dX4_lay_101 103 rfl zkb_13 ?_
                refine z_iload_n hX dX4_lay_103 104 rfl (i := 1) rfl 1 rfl ?_
                refine z_imul hX dX4_lay_104 105 rfl (w := nI (13 * shelf.toNatClampNeg)) (pk_mul 13 shelf.toNatClampNeg) ?_
                refine z_iadd hX dX4_lay_105 106 rfl (w := nI (100 + (13 * shelf.toNatClampNeg))) (nI_add 100 (13 * shelf.toNatClampNeg)) ?_
                refine m_ald_now hX hM (100 + (13 * shelf.toNatClampNeg)) (by omega) dX4_lay_106 107 rfl (w := (x4_lays_now (mt_now M) K shelf.toNatClampNeg (nI kind.toNatClampNeg) (nI asset.toNatClampNeg) v) (100 + (13 * shelf.toNatClampNeg))) (congrFun ((mg_now_undoMany _ _).trans ((mg_now_undos _ _).trans (mgs_now _ _))) (100 + (13 * shelf.toNatClampNeg))) ?_
                refine z_iconst hX dX4_lay_107 108 rfl zki_1 ?_
                refine z_isub hX dX4_lay_108 109 rfl (w := ((x4_lays_now (mt_now M) K shelf.toNatClampNeg (nI kind.toNatClampNeg) (nI asset.toNatClampNeg) v) (100 + (13 * shelf.toNatClampNeg))) - 1) rfl ?_
                exact z_iret hX hQ (Nat.zero_le _) (Nat.zero_le _) rfl dX4_lay_109 ⟨(by first | (simp only [if_pos c1, if_pos c2, if_pos c3, if_pos c6, if_pos c7, if_neg c8] <;> rfl; done) | ((try simp only [if_pos c1]); (try simp only [if_pos c2]); (try simp only [if_pos c3]); (try simp only [if_pos c6]); (try simp only [if_pos c7]); (try simp only [if_neg c8]); rfl) | grind), (by first | (simpa only [if_pos c1, if_pos c2, if_pos c3, if_pos c6, if_pos c7, if_neg c8, me_now, me_undos, me_undoMany] using hM) | (simpa only [if_pos c1, if_pos c2, if_pos c3, if_pos c6, if_pos c7, if_neg c8, me2_now, me2_undos, me2_undoMany, mg_undos_now, mg_undoMany_now, mg_undoMany_undos] using hM) | ((try simp only [if_pos c1]); (try simp only [if_pos c2]); (try simp only [if_pos c3]); (try simp only [if_pos c6]); (try simp only [if_pos c7]); (try simp only [if_neg c8]); exact hM) | ((try simp only [if_pos c1]); (try simp only [if_pos c2]); (try simp only [if_pos c3]); (try simp only [if_pos c6]); (try simp only [if_pos c7]); (try simp only [if_neg c8]); simpa only [me_now, me_undos, me_undoMany] using hM))⟩
              ·
                refine z_bipush hX dX4_lay_79 81 rfl zkb_m3 ?_
                exact z_iret hX hQ (Nat.zero_le _) (Nat.zero_le _) rfl dX4_lay_81 ⟨(by first | (simp only [if_pos c1, if_pos c2, if_pos c3, if_pos c6, if_pos c7, if_pos c8] <;> rfl; done) | ((try simp only [if_pos c1]); (try simp only [if_pos c2]); (try simp only [if_pos c3]); (try simp only [if_pos c6]); (try simp only [if_pos c7]); (try simp only [if_pos c8]); rfl) | grind), (by first | (simpa only [if_pos c1, if_pos c2, if_pos c3, if_pos c6, if_pos c7, if_pos c8, me_now, me_undos, me_undoMany] using hM) | (simpa only [if_pos c1, if_pos c2, if_pos c3, if_pos c6, if_pos c7, if_pos c8, me2_now, me2_undos, me2_undoMany, mg_undos_now, mg_undoMany_now, mg_undoMany_undos] using hM) | ((try simp only [if_pos c1]); (try simp only [if_pos c2]); (try simp only [if_pos c3]); (try simp only [if_pos c6]); (try simp only [if_pos c7]); (try simp only [if_pos c8]); exact hM) | ((try simp only [if_pos c1]); (try simp only [if_pos c2]); (try simp only [if_pos c3]); (try simp only [if_pos c6]); (try simp only [if_pos c7]); (try simp only [if_pos c8]); simpa only [me_now, me_undos, me_undoMany] using hM))⟩
            ·
              refine z_iload_n hX dX4_lay_55 56 rfl (i := 1) rfl 1 rfl ?_
              refine z_iload_n hX dX4_lay_56 57 rfl (i := 2) rfl 2 rfl ?_
              refine z_icmp_eqN hX shelf.toNatClampNeg kind.toNatClampNeg (by omega) (by omega) dX4_lay_57 60 rfl (tgt := 63) (by decide) (fun c9 => ?_) (fun c9 => ?_)
              ·
                refine z_aload_n hX dX4_lay_63 64 rfl (i := 0) rfl 0 rfl ?_
                refine z_getf hX fX4_7 hM.1.o dX4_lay_64 67 rfl (x := .ref (o + 1)) rfl ?_
                refine z_bipush hX dX4_lay_67 69 rfl zkb_100 ?_
                refine z_bipush hX dX4_lay_69 71 rfl zkb_13 ?_
                refine z_iload_n hX dX4_lay_71 72 rfl (i := 1) rfl 1 rfl ?_
                refine z_imul hX dX4_lay_72 73 rfl (w := nI (13 * shelf.toNatClampNeg)) (pk_mul 13 shelf.toNatClampNeg) ?_
                refine z_iadd hX dX4_lay_73 74 rfl (w := nI (100 + (13 * shelf.toNatClampNeg))) (nI_add 100 (13 * shelf.toNatClampNeg)) ?_
                have hKshelf := (hN.2.2.2.2.1 shelf.toNatClampNeg (by omega)).2
                refine m_ald_now hX hM (100 + (13 * shelf.toNatClampNeg)) (by omega) dX4_lay_74 75 rfl (w := nI (K shelf.toNatClampNeg)) (hN.2.2.2.2.1 shelf.toNatClampNeg (by omega)).1 ?_
                refine z_iconst hX dX4_lay_75 76 rfl zki_4 ?_
                refine z_icmp_neN hX (K shelf.toNatClampNeg) 4 (by omega) (by omega) dX4_lay_76 79 rfl (tgt := 82) (by decide) (fun c10 => ?_) (fun c10 => ?_)
                ·
                  refine z_aload_n hX dX4_lay_82 83 rfl (i := 0) rfl 0 rfl ?_
                  refine z_callVv hX cwX4_234 (met_X4_remembers hG hM.1 hU) hM.1.o rfl rfl dX4_lay_83 86 rfl rfl rfl (Nat.le_of_ble_eq_true rfl) (by decide) ⟨Nat.zero_le _, Nat.zero_le _⟩ (fun G hhM => ?_)
                  have hM := zMs.tr hM hhM
                  have hM : zMs g G0 G o (ms_undoMany (ms_undos M (x4_remembers_undos (mt_now M) (mt_undos M) U)) (x4_remembers_undoMany U)) := hM
                  refine z_aload_n hX dX4_lay_86 87 rfl (i := 0) rfl 0 rfl ?_
                  refine z_iload_n hX dX4_lay_87 88 rfl (i := 1) rfl 1 rfl ?_
                  refine z_iload_n hX dX4_lay_88 89 rfl (i := 2) rfl 2 rfl ?_
                  refine z_iload_n hX dX4_lay_89 90 rfl (i := 3) rfl 3 rfl ?_
                  refine z_iload hX dX4_lay_90 92 rfl 4 rfl ?_
                  refine z_callVv hX cwX4_119 (met_X4_lays hG hM.1 (zWf_eq ((mg_now_undoMany _ _).trans (mg_now_undos _ _)) hN) shelf.toNatClampNeg (nI kind.toNatClampNeg) (nI asset.toNatClampNeg) v (by omega) (by first | assumption | omega)) hM.1.o rfl rfl dX4_lay_92 95 rfl rfl rfl (Nat.le_of_ble_eq_true rfl) (by decide) ⟨Nat.zero_le _, Nat.zero_le _⟩ (fun G hhM => ?_)
                  have hM := zMs.tr hM hhM
                  have hM : zMs g G0 G o (ms_undoMany (ms_undos (ms_now M (x4_lays_now (mt_now M) K shelf.toNatClampNeg (nI kind.toNatClampNeg) (nI asset.toNatClampNeg) v)) (x4_remembers_undos (mt_now M) (mt_undos M) U)) (x4_remembers_undoMany U)) := by simpa only [mg_now_undos, mg_now_undoMany, mc_now_undos, mc_now_undoMany, mm_now, mc_undos_undoMany, mm_undos, mm_undoMany] using hM
                  refine z_aload_n hX dX4_lay_95 96 rfl (i := 0) rfl 0 rfl ?_
                  refine z_getf hX fX4_7 hM.1.o dX4_lay_96 99 rfl (x := .ref (o + 1)) rfl ?_
                  refine z_bipush hX dX4_lay_99 101 rfl zkb_100 ?_
                  refine z_bipush hX dX4_lay_101 103 rfl zkb_13 ?_
                  refine z_iload_n hX dX4_lay_103 104 rfl (i := 1) rfl 1 rfl ?_
                  refine z_imul hX dX4_lay_104 105 rfl (w := nI (13 * shelf.toNatClampNeg)) (pk_mul 13 shelf.toNatClampNeg) ?_
                  refine z_iadd hX dX4_lay_105 106 rfl (w := nI (100 + (13 * shelf.toNatClampNeg))) (nI_add 100 (13 * shelf.toNatClampNeg)) ?_
                  refine m_ald_now hX hM (100 + (13 * shelf.toNatClampNeg)) (by omega) dX4_lay_106 107 rfl (w := (x4_lays_now (mt_now M) K shelf.toNatClampNeg (nI kind.toNatClampNeg) (nI asset.toNatClampNeg) v) (100 + (13 * shelf.toNatClampNeg))) (congrFun ((mg_now_undoMany _ _).trans ((mg_now_undos _ _).trans (mgs_now _ _))) (100 + (13 * shelf.toNatClampNeg))) ?_
                  refine z_iconst hX dX4_lay_107 108 rfl zki_1 ?_
                  refine z_isub hX dX4_lay_108 109 rfl (w := ((x4_lays_now (mt_now M) K shelf.toNatClampNeg (nI kind.toNatClampNeg) (nI asset.toNatClampNeg) v) (100 + (13 * shelf.toNatClampNeg))) - 1) rfl ?_
                  exact z_iret hX hQ (Nat.zero_le _) (Nat.zero_le _) rfl dX4_lay_109 ⟨(by first | (simp only [if_pos c1, if_pos c2, if_pos c3, if_pos c6, if_neg (Nat.not_le.mpr c7), if_pos c9, if_neg c10] <;> rfl; done) | ((try simp only [if_pos c1]); (try simp only [if_pos c2]); (try simp only [if_pos c3]); (try simp only [if_pos c6]); (try simp only [if_neg (Nat.not_le.mpr c7)]); (try simp only [if_pos c9]); (try simp only [if_neg c10]); rfl) | grind), (by first | (simpa only [if_pos c1, if_pos c2, if_pos c3, if_pos c6, if_neg (Nat.not_le.mpr c7), if_pos c9, if_neg c10, me_now, me_undos, me_undoMany] using hM) | (simpa only [if_pos c1, if_pos c2, if_pos c3, if_pos c6, if_neg (Nat.not_le.mpr c7), if_pos c9, if_neg c10, me2_now, me2_undos, me2_undoMany, mg_undos_now, mg_undoMany_now, mg_undoMany_undos] using hM) | ((try simp only [if_pos c1]); (try simp only [if_pos c2]); (try simp only [if_pos c3]); (try simp only [if_pos c6]); (try simp only [if_neg (Nat.not_le.mpr c7)]); (try simp only [if_pos c9]); (try simp only [if_neg c10]); exact hM) | ((try simp only [if_pos c1]); (try simp only [if_pos c2]); (try simp only [if_pos c3]); (try simp only [if_pos c6]); (try simp only [if_neg (Nat.not_le.mpr c7)]); (try simp only [if_pos c9]); (try simp only [if_neg c10]); simpa only [me_now, me_undos, me_undoMany] using hM))⟩
                ·
                  refine z_bipush hX dX4_lay_79 81 rfl zkb_m3 ?_
                  exact z_iret hX hQ (Nat.zero_le _) (Nat.zero_le _) rfl dX4_lay_81 ⟨(by first | (simp only [if_pos c1, if_pos c2, if_pos c3, if_pos c6, if_neg (Nat.not_le.mpr c7), if_pos c9, if_pos c10] <;> rfl; done) | ((try simp only [if_pos c1]); (try simp only [if_pos c2]); (try simp only [if_pos c3]); (try simp only [if_pos c6]); (try simp only [if_neg (Nat.not_le.mpr c7)]); (try simp only [if_pos c9]); (try simp only [if_pos c10]); rfl) | grind), (by first | (simpa only [if_pos c1, if_pos c2, if_pos c3, if_pos c6, if_neg (Nat.not_le.mpr c7), if_pos c9, if_pos c10, me_now, me_undos, me_undoMany] using hM) | (simpa only [if_pos c1, if_pos c2, if_pos c3, if_pos c6, if_neg (Nat.not_le.mpr c7), if_pos c9, if_pos c10, me2_now, me2_undos, me2_undoMany, mg_undos_now, mg_undoMany_now, mg_undoMany_undos] using hM) | ((try simp only [if_pos c1]); (try simp only [if_pos c2]); (try simp only [if_pos c3]); (try simp only [if_pos c6]); (try simp only [if_neg (Nat.not_le.mpr c7)]); (try simp only [if_pos c9]); (try simp only [if_pos c10]); exact hM) | ((try simp only [if_pos c1]); (try simp only [if_pos c2]); (try simp only [if_pos c3]); (try simp only [if_pos c6]); (try simp only [if_neg (Nat.not_le.mpr c7)]); (try simp only [if_pos c9]); (try simp only [if_pos c10]); simpa only [me_now, me_undos, me_undoMany] using hM))⟩
              ·
                refine z_bipush hX dX4_lay_60 62 rfl zkb_m2 ?_
                exact z_iret hX hQ (Nat.zero_le _) (Nat.zero_le _) rfl dX4_lay_62 ⟨(by first | (simp only [if_pos c1, if_pos c2, if_pos c3, if_pos c6, if_neg (Nat.not_le.mpr c7), if_neg c9] <;> rfl; done) | ((try simp only [if_pos c1]); (try simp only [if_pos c2]); (try simp only [if_pos c3]); (try simp only [if_pos c6]); (try simp only [if_neg (Nat.not_le.mpr c7)]); (try simp only [if_neg c9]); rfl) | grind), (by first | (simpa only [if_pos c1, if_pos c2, if_pos c3, if_pos c6, if_neg (Nat.not_le.mpr c7), if_neg c9, me_now, me_undos, me_undoMany] using hM) | (simpa only [if_pos c1, if_pos c2, if_pos c3, if_pos c6, if_neg (Nat.not_le.mpr c7), if_neg c9, me2_now, me2_undos, me2_undoMany, mg_undos_now, mg_undoMany_now, mg_undoMany_undos] using hM) | ((try simp only [if_pos c1]); (try simp only [if_pos c2]); (try simp only [if_pos c3]); (try simp only [if_pos c6]); (try simp only [if_neg (Nat.not_le.mpr c7)]); (try simp only [if_neg c9]); exact hM) | ((try simp only [if_pos c1]); (try simp only [if_pos c2]); (try simp only [if_pos c3]); (try simp only [if_pos c6]); (try simp only [if_neg (Nat.not_le.mpr c7)]); (try simp only [if_neg c9]); simpa only [me_now, me_undos, me_undoMany] using hM))⟩
          ·
            refine z_iconst hX dX4_lay_48 49 rfl zki_m1 ?_
            exact z_iret hX hQ (Nat.zero_le _) (Nat.zero_le _) rfl dX4_lay_49 ⟨(by first | (simp only [if_pos c1, if_pos c2, if_pos c3, if_neg c6] <;> rfl; done) | ((try simp only [if_pos c1]); (try simp only [if_pos c2]); (try simp only [if_pos c3]); (try simp only [if_neg c6]); rfl) | grind), (by first | (simpa only [if_pos c1, if_pos c2, if_pos c3, if_neg c6, me_now, me_undos, me_undoMany] using hM) | (simpa only [if_pos c1, if_pos c2, if_pos c3, if_neg c6, me2_now, me2_undos, me2_undoMany, mg_undos_now, mg_undoMany_now, mg_undoMany_undos] using hM) | ((try simp only [if_pos c1]); (try simp only [if_pos c2]); (try simp only [if_pos c3]); (try simp only [if_neg c6]); exact hM) | ((try simp only [if_pos c1]); (try simp only [if_pos c2]); (try simp only [if_pos c3]); (try simp only [if_neg c6]); simpa only [me_now, me_undos, me_undoMany] using hM))⟩
        refine z_if_neN hX kind.toNatClampNeg (by omega) dX4_lay_30 33 rfl (tgt := 39) (by decide) (fun c4 => ?_) (fun c4 => ?_)
        ·
          refine z_sipush hX dX4_lay_39 42 rfl zks_200 ?_
          exact z_eqL rfl (by first | (simp only [if_pos c1, if_pos c2, if_pos c3, if_neg c4] <;> rfl; done) | ((try simp only [if_pos c1]); (try simp only [if_pos c2]); (try simp only [if_pos c3]); (try simp only [if_neg c4]); rfl) | grind) J5
        ·
          refine z_sipush hX dX4_lay_33 36 rfl zks_360 ?_
          refine z_goto hX dX4_lay_36 (tgt := 42) (by decide) ?_
          exact z_eqL rfl (by first | (simp only [if_pos c1, if_pos c2, if_pos c3, if_pos c4] <;> rfl; done) | ((try simp only [if_pos c1]); (try simp only [if_pos c2]); (try simp only [if_pos c3]); (try simp only [if_pos c4]); rfl) | grind) J5
def x4_lift_l54 (shelf : Int32) (place : Int32) (ini : Nat → Int32) (k : Nat) : Nat → Int32 := zfold k (fun j3 cj3 => upd cj3 (100 + (13 * shelf.toNatClampNeg) + 1 + (3 * place.toNatClampNeg) + j3) (cj3 (100 + (13 * shelf.toNatClampNeg) + 1 + (3 * place.toNatClampNeg) + j3 + 3))) ini
theorem x4_lift_l54_0 (shelf : Int32) (place : Int32) (ini : Nat → Int32) : x4_lift_l54 shelf place ini 0 = ini := (zfold_0 _ _).trans (Eq.refl _)
def x4_lift (m_now : Nat → Int32) (K : Nat → Nat) (shelf : Int32) (place : Int32) : Int32 := (if zin shelf 3 then (if zin place (K shelf.toNatClampNeg) then (((x4_lift_l54 shelf place (m_now) (100 + (13 * shelf.toNatClampNeg) + 10 - (100 + (13 * shelf.toNatClampNeg) + 1 + (3 * place.toNatClampNeg)))) (100 + (13 * shelf.toNatClampNeg))) - 1) else (-1) : Int32) else (-1) : Int32)
def x4_lift_now (m_now : Nat → Int32) (K : Nat → Nat) (shelf : Int32) (place : Int32) : Nat → Int32 := if zin shelf 3 then if zin place (K shelf.toNatClampNeg) then upd (x4_lift_l54 shelf place (m_now) (100 + (13 * shelf.toNatClampNeg) + 10 - (100 + (13 * shelf.toNatClampNeg) + 1 + (3 * place.toNatClampNeg)))) (100 + (13 * shelf.toNatClampNeg)) (((x4_lift_l54 shelf place (m_now) (100 + (13 * shelf.toNatClampNeg) + 10 - (100 + (13 * shelf.toNatClampNeg) + 1 + (3 * place.toNatClampNeg)))) (100 + (13 * shelf.toNatClampNeg))) - 1) else m_now else m_now
def x4_lift_undos (m_now : Nat → Int32) (m_undos : Nat → Int32) (K : Nat → Nat) (U : Nat) (shelf : Int32) (place : Int32) : Nat → Int32 := if zin shelf 3 then if zin place (K shelf.toNatClampNeg) then x4_remembers_undos (m_now) (m_undos) U else m_undos else m_undos
def x4_lift_undoMany (m_undoMany : Int32) (K : Nat → Nat) (U : Nat) (shelf : Int32) (place : Int32) : Int32 := if zin shelf 3 then if zin place (K shelf.toNatClampNeg) then x4_remembers_undoMany U else m_undoMany else m_undoMany
set_option maxHeartbeats 4000000 in
theorem met_X4_lift {g : Zg} (hG : zG g) {G0 : zHG} {o : Nat} {M : MT} (hM : zMo g G0 o M) {A H : Nat} {K : Nat → Nat} (hN : zWf (mt_now M) A H K) {U : Nat} (hU : mt_undoMany M = nI U ∧ U ≤ 12) (shelf : Int32) (place : Int32)    : ZM g yX4_lift cX4_lift 5 (some FieldType.int) 3 0 0 [.ref o, .int shelf, .int place] G0 (fun r G' => r = some (.int (x4_lift (mt_now M) K shelf place)) ∧ zMs g G0 G' o (ms_undoMany (ms_undos (ms_now M (x4_lift_now (mt_now M) K shelf place)) (x4_lift_undos (mt_now M) (mt_undos M) K U shelf place)) (x4_lift_undoMany (mt_undoMany M) K U shelf place))) := by
  unfold x4_lift x4_lift_now x4_lift_undos x4_lift_undoMany
  have hU2 := hU.2
  have hN2 := hN.2.1
  have hN4 := hN.2.2.2.1
  refine ZM_mk hG (by decide) (Nat.le_of_ble_eq_true rfl) ?_
  intro X hX hname hQ
  obtain ⟨G, hGe⟩ : ∃ z, z = G0 := ⟨_, rfl⟩
  have hM : zMs g G0 G o M := by rw [hGe]; exact zMs.rf hM
  show ZW g X 0 0 G0 0 [(0, .ref o), (1, .int shelf), (2, .int place)] []
  rw [← hGe]
  refine z_iload_n hX dX4_lift_0 1 rfl (i := 1) rfl 1 rfl ?_
  refine z_iconst hX dX4_lift_1 2 rfl zki_0 ?_
  refine z_iconst hX dX4_lift_2 3 rfl zki_2 ?_
  refine z_callSp hX cwX4_68 (w := .int (if zin shelf 3 then 1 else 0 : Int32)) (met_X4_isInz hG shelf 2 3 (by decide)) dX4_lift_3 6 rfl rfl rfl (Nat.le_of_ble_eq_true rfl) (by decide) ⟨Nat.zero_le _, Nat.zero_le _⟩ ?_
  refine z_if_eqP hX (zin shelf 3) dX4_lift_6 9 rfl (tgt := 31) (by decide) (fun c1 => ?_) (fun c1 => ?_)
  ·
    refine z_iconst hX dX4_lift_31 32 rfl zki_m1 ?_
    exact z_iret hX hQ (Nat.zero_le _) (Nat.zero_le _) rfl dX4_lift_32 ⟨(by first | (simp only [if_neg c1] <;> rfl; done) | grind), (by first | (simpa only [if_neg c1, me_now, me_undos, me_undoMany] using hM) | (simpa only [if_neg c1, me2_now, me2_undos, me2_undoMany, mg_undos_now, mg_undoMany_now, mg_undoMany_undos] using hM))⟩
  ·
    have e_shelf := zin_eq c1
    have l_shelf := zin_lt c1
    refine z_eqL (L' := [(0, .ref o), (1, .int (nI shelf.toNatClampNeg)), (2, .int place)]) (st' := []) (by rw [← e_shelf]) (by first | rfl | rw [← e_shelf]) ?_
    refine z_iload_n hX dX4_lift_9 10 rfl (i := 2) rfl 2 rfl ?_
    refine z_iconst hX dX4_lift_10 11 rfl zki_0 ?_
    refine z_aload_n hX dX4_lift_11 12 rfl (i := 0) rfl 0 rfl ?_
    refine z_getf hX fX4_7 hM.1.o dX4_lift_12 15 rfl (x := .ref (o + 1)) rfl ?_
    refine z_bipush hX dX4_lift_15 17 rfl zkb_100 ?_
    refine z_bipush hX dX4_lift_17 19 rfl zkb_13 ?_
    refine z_iload_n hX dX4_lift_19 20 rfl (i := 1) rfl 1 rfl ?_
    refine z_imul hX dX4_lift_20 21 rfl (w := nI (13 * shelf.toNatClampNeg)) (pk_mul 13 shelf.toNatClampNeg) ?_
    refine z_iadd hX dX4_lift_21 22 rfl (w := nI (100 + (13 * shelf.toNatClampNeg))) (nI_add 100 (13 * shelf.toNatClampNeg)) ?_
    have hKshelf := (hN.2.2.2.2.1 shelf.toNatClampNeg (by omega)).2
    refine m_ald_now hX hM (100 + (13 * shelf.toNatClampNeg)) (by omega) dX4_lift_22 23 rfl (w := nI (K shelf.toNatClampNeg)) (hN.2.2.2.2.1 shelf.toNatClampNeg (by omega)).1 ?_
    refine z_iconst hX dX4_lift_23 24 rfl zki_1 ?_
    refine z_isub hX dX4_lift_24 25 rfl (w := (nI (K shelf.toNatClampNeg)) - 1) rfl ?_
    refine z_callSp hX cwX4_68 (w := .int (if zin place (K shelf.toNatClampNeg) then 1 else 0 : Int32)) (met_X4_isInz hG place ((nI (K shelf.toNatClampNeg)) - 1) (K shelf.toNatClampNeg) (nI_m1 (by omega))) dX4_lift_25 28 rfl rfl rfl (Nat.le_of_ble_eq_true rfl) (by decide) ⟨Nat.zero_le _, Nat.zero_le _⟩ ?_
    refine z_if_neP hX (zin place (K shelf.toNatClampNeg)) dX4_lift_28 31 rfl (tgt := 33) (by decide) (fun c2 => ?_) (fun c2 => ?_)
    ·
      have e_place := zin_eq c2
      have l_place := zin_lt c2
      refine z_eqL (L' := [(0, .ref o), (1, .int (nI shelf.toNatClampNeg)), (2, .int (nI place.toNatClampNeg))]) (st' := []) (by rw [← e_place]) (by first | rfl | rw [← e_place]) ?_
      refine z_aload_n hX dX4_lift_33 34 rfl (i := 0) rfl 0 rfl ?_
      refine z_callVv hX cwX4_234 (met_X4_remembers hG hM.1 hU) hM.1.o rfl rfl dX4_lift_34 37 rfl rfl rfl (Nat.le_of_ble_eq_true rfl) (by decide) ⟨Nat.zero_le _, Nat.zero_le _⟩ (fun G hhM => ?_)
      have hM := zMs.tr hM hhM
      have hM : zMs g G0 G o (ms_undoMany (ms_undos M (x4_remembers_undos (mt_now M) (mt_undos M) U)) (x4_remembers_undoMany U)) := hM
      refine z_bipush hX dX4_lift_37 39 rfl zkb_100 ?_
      refine z_bipush hX dX4_lift_39 41 rfl zkb_13 ?_
      refine z_iload_n hX dX4_lift_41 42 rfl (i := 1) rfl 1 rfl ?_
      refine z_imul hX dX4_lift_42 43 rfl (w := nI (13 * shelf.toNatClampNeg)) (pk_mul 13 shelf.toNatClampNeg) ?_
      refine z_iadd hX dX4_lift_43 44 rfl (w := nI (100 + (13 * shelf.toNatClampNeg))) (nI_add 100 (13 * shelf.toNatClampNeg)) ?_
      refine z_istore_n hX dX4_lift_44 45 rfl (i := 3) rfl (Nat.le_of_ble_eq_true rfl) rfl (L' := [(0, .ref o), (1, .int (nI shelf.toNatClampNeg)), (2, .int (nI place.toNatClampNeg)), (3, .int (nI (100 + (13 * shelf.toNatClampNeg))))]) rfl ?_
      refine z_iload_n hX dX4_lift_45 46 rfl (i := 3) rfl 3 rfl ?_
      refine z_iconst hX dX4_lift_46 47 rfl zki_1 ?_
      refine z_iadd hX dX4_lift_47 48 rfl (w := nI (100 + (13 * shelf.toNatClampNeg) + 1)) (nI_add (100 + (13 * shelf.toNatClampNeg)) 1) ?_
      refine z_iconst hX dX4_lift_48 49 rfl zki_3 ?_
      refine z_iload_n hX dX4_lift_49 50 rfl (i := 2) rfl 2 rfl ?_
      refine z_imul hX dX4_lift_50 51 rfl (w := nI (3 * place.toNatClampNeg)) (pk_mul 3 place.toNatClampNeg) ?_
      refine z_iadd hX dX4_lift_51 52 rfl (w := nI (100 + (13 * shelf.toNatClampNeg) + 1 + (3 * place.toNatClampNeg))) (nI_add (100 + (13 * shelf.toNatClampNeg) + 1) (3 * place.toNatClampNeg)) ?_
      refine z_istore hX dX4_lift_52 54 rfl (Nat.le_of_ble_eq_true rfl) rfl (L' := [(0, .ref o), (1, .int (nI shelf.toNatClampNeg)), (2, .int (nI place.toNatClampNeg)), (3, .int (nI (100 + (13 * shelf.toNatClampNeg)))), (4, .int (nI (100 + (13 * shelf.toNatClampNeg) + 1 + (3 * place.toNatClampNeg))))]) rfl ?_
      have E4 : ∀ G : zHG, zMs g G0 G o (ms_undoMany (ms_undos (ms_now M (x4_lift_l54 shelf place (mt_now M) (100 + (13 * shelf.toNatClampNeg) + 10 - (100 + (13 * shelf.toNatClampNeg) + 1 + (3 * place.toNatClampNeg))))) (x4_remembers_undos (mt_now M) (mt_undos M) U)) (x4_remembers_undoMany U)) → ZW g X 0 0 G 85 [(0, .ref o), (1, .int (nI shelf.toNatClampNeg)), (2, .int (nI place.toNatClampNeg)), (3, .int (nI (100 + (13 * shelf.toNatClampNeg)))), (4, .int (nI (100 + (13 * shelf.toNatClampNeg) + 1 + (3 * place.toNatClampNeg) + (100 + (13 * shelf.toNatClampNeg) + 10 - (100 + (13 * shelf.toNatClampNeg) + 1 + (3 * place.toNatClampNeg))))))] [] := by
        intro G hM
        refine z_aload_n hX dX4_lift_85 86 rfl (i := 0) rfl 0 rfl ?_
        refine z_getf hX fX4_7 hM.1.o dX4_lift_86 89 rfl (x := .ref (o + 1)) rfl ?_
        refine z_iload_n hX dX4_lift_89 90 rfl (i := 3) rfl 3 rfl ?_
        refine z_dup2_11 hX dX4_lift_90 91 rfl rfl rfl ?_
        refine m_ald_now hX hM (100 + (13 * shelf.toNatClampNeg)) (by omega) dX4_lift_91 92 rfl (w := (x4_lift_l54 shelf place (mt_now M) (100 + (13 * shelf.toNatClampNeg) + 10 - (100 + (13 * shelf.toNatClampNeg) + 1 + (3 * place.toNatClampNeg)))) (100 + (13 * shelf.toNatClampNeg))) (congrFun ((mg_now_undoMany _ _).trans ((mg_now_undos _ _).trans (mgs_now _ _))) (100 + (13 * shelf.toNatClampNeg))) ?_
        refine z_iconst hX dX4_lift_92 93 rfl zki_1 ?_
        refine z_isub hX dX4_lift_93 94 rfl (w := ((x4_lift_l54 shelf place (mt_now M) (100 + (13 * shelf.toNatClampNeg) + 10 - (100 + (13 * shelf.toNatClampNeg) + 1 + (3 * place.toNatClampNeg)))) (100 + (13 * shelf.toNatClampNeg))) - 1) rfl ?_
        refine m_ast_now hX hM (100 + (13 * shelf.toNatClampNeg)) (by omega) dX4_lift_94 95 rfl (fun G hM => ?_)
        have hM : zMs g G0 G o (ms_undoMany (ms_undos (ms_now M (upd (x4_lift_l54 shelf place (mt_now M) (100 + (13 * shelf.toNatClampNeg) + 10 - (100 + (13 * shelf.toNatClampNeg) + 1 + (3 * place.toNatClampNeg)))) (100 + (13 * shelf.toNatClampNeg)) (((x4_lift_l54 shelf place (mt_now M) (100 + (13 * shelf.toNatClampNeg) + 10 - (100 + (13 * shelf.toNatClampNeg) + 1 + (3 * place.toNatClampNeg)))) (100 + (13 * shelf.toNatClampNeg))) - 1))) (x4_remembers_undos (mt_now M) (mt_undos M) U)) (x4_remembers_undoMany U)) := by simpa only [mg_now_undos, mg_now_undoMany, mgs_now, mc_now_undos, mc_now_undoMany, mm_now, mc_undos_undoMany, mm_undos, mm_undoMany] using hM
        refine z_aload_n hX dX4_lift_95 96 rfl (i := 0) rfl 0 rfl ?_
        refine z_getf hX fX4_7 hM.1.o dX4_lift_96 99 rfl (x := .ref (o + 1)) rfl ?_
        refine z_iload_n hX dX4_lift_99 100 rfl (i := 3) rfl 3 rfl ?_
        refine m_ald_now hX hM (100 + (13 * shelf.toNatClampNeg)) (by omega) dX4_lift_100 101 rfl (w := (((x4_lift_l54 shelf place (mt_now M) (100 + (13 * shelf.toNatClampNeg) + 10 - (100 + (13 * shelf.toNatClampNeg) + 1 + (3 * place.toNatClampNeg)))) (100 + (13 * shelf.toNatClampNeg))) - 1)) ((congrFun ((mg_now_undoMany _ _).trans ((mg_now_undos _ _).trans (mgs_now _ _))) (100 + (13 * shelf.toNatClampNeg))).trans pk_us) ?_
        exact z_iret hX hQ (Nat.zero_le _) (Nat.zero_le _) rfl dX4_lift_101 ⟨(by first | (simp only [if_pos c1, if_pos c2] <;> rfl; done) | grind), (by first | (simpa only [if_pos c1, if_pos c2, me_now, me_undos, me_undoMany] using hM) | (simpa only [if_pos c1, if_pos c2, me2_now, me2_undos, me2_undoMany, mg_undos_now, mg_undoMany_now, mg_undoMany_undos] using hM))⟩
      have Lp5 : ∀ k j3 : Nat, j3 + k = (100 + (13 * shelf.toNatClampNeg) + 10 - (100 + (13 * shelf.toNatClampNeg) + 1 + (3 * place.toNatClampNeg))) → ∀ G : zHG, zMs g G0 G o (ms_undoMany (ms_undos (ms_now M (x4_lift_l54 shelf place (mt_now M) j3)) (x4_remembers_undos (mt_now M) (mt_undos M) U)) (x4_remembers_undoMany U)) → ZW g X 0 0 G 54 [(0, .ref o), (1, .int (nI shelf.toNatClampNeg)), (2, .int (nI place.toNatClampNeg)), (3, .int (nI (100 + (13 * shelf.toNatClampNeg)))), (4, .int (nI (100 + (13 * shelf.toNatClampNeg) + 1 + (3 * place.toNatClampNeg) + j3)))] [] := by
        intro k
        induction k with
        | zero =>
          intro j3 hj3 G hM
          rw [show j3 = (100 + (13 * shelf.toNatClampNeg) + 10 - (100 + (13 * shelf.toNatClampNeg) + 1 + (3 * place.toNatClampNeg))) from by omega] at hM ⊢
          refine z_iload hX dX4_lift_54 56 rfl 4 rfl ?_
          refine z_iload_n hX dX4_lift_56 57 rfl (i := 3) rfl 3 rfl ?_
          refine z_bipush hX dX4_lift_57 59 rfl zkb_10 ?_
          refine z_iadd hX dX4_lift_59 60 rfl (w := nI (100 + (13 * shelf.toNatClampNeg) + 10)) (nI_add (100 + (13 * shelf.toNatClampNeg)) 10) ?_
          refine z_icmp_geN hX (100 + (13 * shelf.toNatClampNeg) + 1 + (3 * place.toNatClampNeg) + (100 + (13 * shelf.toNatClampNeg) + 10 - (100 + (13 * shelf.toNatClampNeg) + 1 + (3 * place.toNatClampNeg)))) (100 + (13 * shelf.toNatClampNeg) + 10) (by omega) (by omega) dX4_lift_60 63 rfl (tgt := 85) (by decide) (fun c6 => ?_) (fun c6 => ?_)
          · exact E4 _ hM
          · exact absurd c6 (by omega)
        | succ k ih =>
          intro j3 hj3 G hM
          refine z_iload hX dX4_lift_54 56 rfl 4 rfl ?_
          refine z_iload_n hX dX4_lift_56 57 rfl (i := 3) rfl 3 rfl ?_
          refine z_bipush hX dX4_lift_57 59 rfl zkb_10 ?_
          refine z_iadd hX dX4_lift_59 60 rfl (w := nI (100 + (13 * shelf.toNatClampNeg) + 10)) (nI_add (100 + (13 * shelf.toNatClampNeg)) 10) ?_
          refine z_icmp_geN hX (100 + (13 * shelf.toNatClampNeg) + 1 + (3 * place.toNatClampNeg) + j3) (100 + (13 * shelf.toNatClampNeg) + 10) (by omega) (by omega) dX4_lift_60 63 rfl (tgt := 85) (by decide) (fun c7 => ?_) (fun c7 => ?_)
          · exact absurd c7 (by omega)
          ·
            refine z_aload_n hX dX4_lift_63 64 rfl (i := 0) rfl 0 rfl ?_
            refine z_getf hX fX4_7 hM.1.o dX4_lift_64 67 rfl (x := .ref (o + 1)) rfl ?_
            refine z_iload hX dX4_lift_67 69 rfl 4 rfl ?_
            refine z_aload_n hX dX4_lift_69 70 rfl (i := 0) rfl 0 rfl ?_
            refine z_getf hX fX4_7 hM.1.o dX4_lift_70 73 rfl (x := .ref (o + 1)) rfl ?_
            refine z_iload hX dX4_lift_73 75 rfl 4 rfl ?_
            refine z_iconst hX dX4_lift_75 76 rfl zki_3 ?_
            refine z_iadd hX dX4_lift_76 77 rfl (w := nI (100 + (13 * shelf.toNatClampNeg) + 1 + (3 * place.toNatClampNeg) + j3 + 3)) (nI_add (100 + (13 * shelf.toNatClampNeg) + 1 + (3 * place.toNatClampNeg) + j3) 3) ?_
            refine m_ald_now hX hM (100 + (13 * shelf.toNatClampNeg) + 1 + (3 * place.toNatClampNeg) + j3 + 3) (by omega) dX4_lift_77 78 rfl (w := (x4_lift_l54 shelf place (mt_now M) j3) (100 + (13 * shelf.toNatClampNeg) + 1 + (3 * place.toNatClampNeg) + j3 + 3)) (congrFun ((mg_now_undoMany _ _).trans ((mg_now_undos _ _).trans (mgs_now _ _))) (100 + (13 * shelf.toNatClampNeg) + 1 + (3 * place.toNatClampNeg) + j3 + 3)) ?_
            refine m_ast_now hX hM (100 + (13 * shelf.toNatClampNeg) + 1 + (3 * place.toNatClampNeg) + j3) (by omega) dX4_lift_78 79 rfl (fun G hM => ?_)
            have hM : zMs g G0 G o (ms_undoMany (ms_undos (ms_now M (upd (x4_lift_l54 shelf place (mt_now M) j3) (100 + (13 * shelf.toNatClampNeg) + 1 + (3 * place.toNatClampNeg) + j3) ((x4_lift_l54 shelf place (mt_now M) j3) (100 + (13 * shelf.toNatClampNeg) + 1 + (3 * place.toNatClampNeg) + j3 + 3)))) (x4_remembers_undos (mt_now M) (mt_undos M) U)) (x4_remembers_undoMany U)) := by simpa only [mg_now_undos, mg_now_undoMany, mgs_now, mc_now_undos, mc_now_undoMany, mm_now, mc_undos_undoMany, mm_undos, mm_undoMany] using hM
            refine z_iinc hX dX4_lift_79 82 rfl 4 rfl (w := nI (100 + (13 * shelf.toNatClampNeg) + 1 + (3 * place.toNatClampNeg) + j3 + 1)) (nI_1 (100 + (13 * shelf.toNatClampNeg) + 1 + (3 * place.toNatClampNeg) + j3)) (Nat.le_of_ble_eq_true rfl) rfl (L' := [(0, .ref o), (1, .int (nI shelf.toNatClampNeg)), (2, .int (nI place.toNatClampNeg)), (3, .int (nI (100 + (13 * shelf.toNatClampNeg)))), (4, .int (nI (100 + (13 * shelf.toNatClampNeg) + 1 + (3 * place.toNatClampNeg) + j3 + 1)))]) rfl ?_
            refine z_goto hX dX4_lift_82 (tgt := 54) (by decide) ?_
            exact ih (j3 + 1) (by omega) _ hM
      have hM : zMs g G0 G o (ms_undoMany (ms_undos (ms_now M (x4_lift_l54 shelf place (mt_now M) 0)) (x4_remembers_undos (mt_now M) (mt_undos M) U)) (x4_remembers_undoMany U)) := by simpa only [x4_lift_l54_0, me_now, mc_now_undos, mc_now_undoMany, mm_now, mc_undos_undoMany, mm_undos, mm_undoMany, me2_now, mg_now_undos, mg_now_undoMany] using hM
      exact Lp5 (100 + (13 * shelf.toNatClampNeg) + 10 - (100 + (13 * shelf.toNatClampNeg) + 1 + (3 * place.toNatClampNeg))) 0 (by omega) _ hM
    ·
      refine z_iconst hX dX4_lift_31 32 rfl zki_m1 ?_
      exact z_iret hX hQ (Nat.zero_le _) (Nat.zero_le _) rfl dX4_lift_32 ⟨(by first | (simp only [if_pos c1, if_neg c2] <;> rfl; done) | grind), (by first | (simpa only [if_pos c1, if_neg c2, me_now, me_undos, me_undoMany] using hM) | (simpa only [if_pos c1, if_neg c2, me2_now, me2_undos, me2_undoMany, mg_undos_now, mg_undoMany_now, mg_undoMany_undos] using hM))⟩
def x4_net (m_now : Nat → Int32) (H : Nat) (house : Int32) (other : Int32) : Int32 := (if zin house H then (if zin other H then (if house.toNatClampNeg = other.toNatClampNeg then (-1) else (if (if (m_now (64 + (6 * other.toNatClampNeg) + house.toNatClampNeg)) ≤ (m_now (64 + (6 * house.toNatClampNeg) + other.toNatClampNeg)) then m_now (64 + (6 * other.toNatClampNeg) + house.toNatClampNeg) else m_now (64 + (6 * house.toNatClampNeg) + other.toNatClampNeg) : Int32) = 0 then (-1) else (if (m_now (64 + (6 * other.toNatClampNeg) + house.toNatClampNeg)) ≤ (m_now (64 + (6 * house.toNatClampNeg) + other.toNatClampNeg)) then m_now (64 + (6 * other.toNatClampNeg) + house.toNatClampNeg) else m_now (64 + (6 * house.toNatClampNeg) + other.toNatClampNeg) : Int32) : Int32) : Int32) else (-1) : Int32) else (-1) : Int32)
def x4_net_now (m_now : Nat → Int32) (H : Nat) (house : Int32) (other : Int32) : Nat → Int32 := if zin house H then if zin other H then if house.toNatClampNeg = other.toNatClampNeg then m_now else if (if (m_now (64 + (6 * other.toNatClampNeg) + house.toNatClampNeg)) ≤ (m_now (64 + (6 * house.toNatClampNeg) + other.toNatClampNeg)) then m_now (64 + (6 * other.toNatClampNeg) + house.toNatClampNeg) else m_now (64 + (6 * house.toNatClampNeg) + other.toNatClampNeg) : Int32) = 0 then m_now else upd (upd (m_now) (64 + (6 * house.toNatClampNeg) + other.toNatClampNeg) ((m_now (64 + (6 * house.toNatClampNeg) + other.toNatClampNeg)) - (if (m_now (64 + (6 * other.toNatClampNeg) + house.toNatClampNeg)) ≤ (m_now (64 + (6 * house.toNatClampNeg) + other.toNatClampNeg)) then m_now (64 + (6 * other.toNatClampNeg) + house.toNatClampNeg) else m_now (64 + (6 * house.toNatClampNeg) + other.toNatClampNeg) : Int32))) (64 + (6 * other.toNatClampNeg) + house.toNatClampNeg) (((upd (m_now) (64 + (6 * house.toNatClampNeg) + other.toNatClampNeg) ((m_now (64 + (6 * house.toNatClampNeg) + other.toNatClampNeg)) - (if (m_now (64 + (6 * other.toNatClampNeg) + house.toNatClampNeg)) ≤ (m_now (64 + (6 * house.toNatClampNeg) + other.toNatClampNeg)) then m_now (64 + (6 * other.toNatClampNeg) + house.toNatClampNeg) else m_now (64 + (6 * house.toNatClampNeg) + other.toNatClampNeg) : Int32))) (64 + (6 * other.toNatClampNeg) + house.toNatClampNeg)) - (if (m_now (64 + (6 * other.toNatClampNeg) + house.toNatClampNeg)) ≤ (m_now (64 + (6 * house.toNatClampNeg) + other.toNatClampNeg)) then m_now (64 + (6 * other.toNatClampNeg) + house.toNatClampNeg) else m_now (64 + (6 * house.toNatClampNeg) + other.toNatClampNeg) : Int32)) else m_now else m_now
def x4_net_undos (m_now : Nat → Int32) (m_undos : Nat → Int32) (H : Nat) (U : Nat) (house : Int32) (other : Int32) : Nat → Int32 := if zin house H then if zin other H then if house.toNatClampNeg = other.toNatClampNeg then m_undos else if (if (m_now (64 + (6 * other.toNatClampNeg) + house.toNatClampNeg)) ≤ (m_now (64 + (6 * house.toNatClampNeg) + other.toNatClampNeg)) then m_now (64 + (6 * other.toNatClampNeg) + house.toNatClampNeg) else m_now (64 + (6 * house.toNatClampNeg) + other.toNatClampNeg) : Int32) = 0 then m_undos else x4_remembers_undos (m_now) (m_undos) U else m_undos else m_undos
def x4_net_undoMany (m_now : Nat → Int32) (m_undoMany : Int32) (H : Nat) (U : Nat) (house : Int32) (other : Int32) : Int32 := if zin house H then if zin other H then if house.toNatClampNeg = other.toNatClampNeg then m_undoMany else if (if (m_now (64 + (6 * other.toNatClampNeg) + house.toNatClampNeg)) ≤ (m_now (64 + (6 * house.toNatClampNeg) + other.toNatClampNeg)) then m_now (64 + (6 * other.toNatClampNeg) + house.toNatClampNeg) else m_now (64 + (6 * house.toNatClampNeg) + other.toNatClampNeg) : Int32) = 0 then m_undoMany else x4_remembers_undoMany U else m_undoMany else m_undoMany
set_option maxHeartbeats 4000000 in
theorem met_X4_net {g : Zg} (hG : zG g) {G0 : zHG} {o : Nat} {M : MT} (hM : zMo g G0 o M) {A H : Nat} {K : Nat → Nat} (hN : zWf (mt_now M) A H K) {U : Nat} (hU : mt_undoMany M = nI U ∧ U ≤ 12) (house : Int32) (other : Int32)    : ZM g yX4_net cX4_net 6 (some FieldType.int) 3 0 0 [.ref o, .int house, .int other] G0 (fun r G' => r = some (.int (x4_net (mt_now M) H house other)) ∧ zMs g G0 G' o (ms_undoMany (ms_undos (ms_now M (x4_net_now (mt_now M) H house other)) (x4_net_undos (mt_now M) (mt_undos M) H U house other)) (x4_net_undoMany (mt_now M) (mt_undoMany M) H U house other))) := by
  unfold x4_net x4_net_now x4_net_undos x4_net_undoMany
  have hU2 := hU.2
  have hN2 := hN.2.1
  have hN4 := hN.2.2.2.1
  refine ZM_mk hG (by decide) (Nat.le_of_ble_eq_true rfl) ?_
  intro X hX hname hQ
  obtain ⟨G, hGe⟩ : ∃ z, z = G0 := ⟨_, rfl⟩
  have hM : zMs g G0 G o M := by rw [hGe]; exact zMs.rf hM
  show ZW g X 0 0 G0 0 [(0, .ref o), (1, .int house), (2, .int other)] []
  rw [← hGe]
  refine z_aload_n hX dX4_net_0 1 rfl (i := 0) rfl 0 rfl ?_
  refine z_iload_n hX dX4_net_1 2 rfl (i := 1) rfl 1 rfl ?_
  refine z_callVp hX cwX4_237 (w := .int (if zin house H then 1 else 0 : Int32)) (met_X4_isHouse hG hM.1 hN house) hM.1.o rfl rfl dX4_net_2 5 rfl rfl rfl (Nat.le_of_ble_eq_true rfl) (by decide) ⟨Nat.zero_le _, Nat.zero_le _⟩ ?_
  refine z_if_eqP hX (zin house H) dX4_net_5 8 rfl (tgt := 21) (by decide) (fun c1 => ?_) (fun c1 => ?_)
  ·
    refine z_iconst hX dX4_net_21 22 rfl zki_m1 ?_
    exact z_iret hX hQ (Nat.zero_le _) (Nat.zero_le _) rfl dX4_net_22 ⟨(by first | (simp only [if_neg c1] <;> rfl; done) | grind), (by first | (simpa only [if_neg c1, me_now, me_undos, me_undoMany] using hM) | (simpa only [if_neg c1, me2_now, me2_undos, me2_undoMany, mg_undos_now, mg_undoMany_now, mg_undoMany_undos] using hM))⟩
  ·
    have e_house := zin_eq c1
    have l_house := zin_lt c1
    refine z_eqL (L' := [(0, .ref o), (1, .int (nI house.toNatClampNeg)), (2, .int other)]) (st' := []) (by rw [← e_house]) (by first | rfl | rw [← e_house]) ?_
    refine z_aload_n hX dX4_net_8 9 rfl (i := 0) rfl 0 rfl ?_
    refine z_iload_n hX dX4_net_9 10 rfl (i := 2) rfl 2 rfl ?_
    refine z_callVp hX cwX4_237 (w := .int (if zin other H then 1 else 0 : Int32)) (met_X4_isHouse hG hM.1 hN other) hM.1.o rfl rfl dX4_net_10 13 rfl rfl rfl (Nat.le_of_ble_eq_true rfl) (by decide) ⟨Nat.zero_le _, Nat.zero_le _⟩ ?_
    refine z_if_eqP hX (zin other H) dX4_net_13 16 rfl (tgt := 21) (by decide) (fun c2 => ?_) (fun c2 => ?_)
    ·
      refine z_iconst hX dX4_net_21 22 rfl zki_m1 ?_
      exact z_iret hX hQ (Nat.zero_le _) (Nat.zero_le _) rfl dX4_net_22 ⟨(by first | (simp only [if_pos c1, if_neg c2] <;> rfl; done) | grind), (by first | (simpa only [if_pos c1, if_neg c2, me_now, me_undos, me_undoMany] using hM) | (simpa only [if_pos c1, if_neg c2, me2_now, me2_undos, me2_undoMany, mg_undos_now, mg_undoMany_now, mg_undoMany_undos] using hM))⟩
    ·
      have e_other := zin_eq c2
      have l_other := zin_lt c2
      refine z_eqL (L' := [(0, .ref o), (1, .int (nI house.toNatClampNeg)), (2, .int (nI other.toNatClampNeg))]) (st' := []) (by rw [← e_other]) (by first | rfl | rw [← e_other]) ?_
      refine z_iload_n hX dX4_net_16 17 rfl (i := 1) rfl 1 rfl ?_
      refine z_iload_n hX dX4_net_17 18 rfl (i := 2) rfl 2 rfl ?_
      refine z_icmp_neN hX house.toNatClampNeg other.toNatClampNeg (by omega) (by omega) dX4_net_18 21 rfl (tgt := 23) (by decide) (fun c3 => ?_) (fun c3 => ?_)
      ·
        refine z_aload_n hX dX4_net_23 24 rfl (i := 0) rfl 0 rfl ?_
        refine z_iload_n hX dX4_net_24 25 rfl (i := 1) rfl 1 rfl ?_
        refine z_iload_n hX dX4_net_25 26 rfl (i := 2) rfl 2 rfl ?_
        refine z_callVp hX cwX4_181 (w := .int (mt_now M (64 + (6 * house.toNatClampNeg) + other.toNatClampNeg))) (met_X4_loanOf hG hM.1 house.toNatClampNeg other.toNatClampNeg (by omega) (by omega)) hM.1.o rfl rfl dX4_net_26 29 rfl rfl rfl (Nat.le_of_ble_eq_true rfl) (by decide) ⟨Nat.zero_le _, Nat.zero_le _⟩ ?_
        refine z_istore_n hX dX4_net_29 30 rfl (i := 3) rfl (Nat.le_of_ble_eq_true rfl) rfl (L' := [(0, .ref o), (1, .int (nI house.toNatClampNeg)), (2, .int (nI other.toNatClampNeg)), (3, .int (mt_now M (64 + (6 * house.toNatClampNeg) + other.toNatClampNeg)))]) rfl ?_
        refine z_aload_n hX dX4_net_30 31 rfl (i := 0) rfl 0 rfl ?_
        refine z_iload_n hX dX4_net_31 32 rfl (i := 2) rfl 2 rfl ?_
        refine z_iload_n hX dX4_net_32 33 rfl (i := 1) rfl 1 rfl ?_
        refine z_callVp hX cwX4_181 (w := .int (mt_now M (64 + (6 * other.toNatClampNeg) + house.toNatClampNeg))) (met_X4_loanOf hG hM.1 other.toNatClampNeg house.toNatClampNeg (by omega) (by omega)) hM.1.o rfl rfl dX4_net_33 36 rfl rfl rfl (Nat.le_of_ble_eq_true rfl) (by decide) ⟨Nat.zero_le _, Nat.zero_le _⟩ ?_
        refine z_istore hX dX4_net_36 38 rfl (Nat.le_of_ble_eq_true rfl) rfl (L' := [(0, .ref o), (1, .int (nI house.toNatClampNeg)), (2, .int (nI other.toNatClampNeg)), (3, .int (mt_now M (64 + (6 * house.toNatClampNeg) + other.toNatClampNeg))), (4, .int (mt_now M (64 + (6 * other.toNatClampNeg) + house.toNatClampNeg)))]) rfl ?_
        refine z_iload_n hX dX4_net_38 39 rfl (i := 3) rfl 3 rfl ?_
        refine z_iload hX dX4_net_39 41 rfl 4 rfl ?_
        have J5 : ZW g X 0 0 G 50 [(0, .ref o), (1, .int (nI house.toNatClampNeg)), (2, .int (nI other.toNatClampNeg)), (3, .int (mt_now M (64 + (6 * house.toNatClampNeg) + other.toNatClampNeg))), (4, .int (mt_now M (64 + (6 * other.toNatClampNeg) + house.toNatClampNeg)))] [.int (if (mt_now M (64 + (6 * other.toNatClampNeg) + house.toNatClampNeg)) ≤ (mt_now M (64 + (6 * house.toNatClampNeg) + other.toNatClampNeg)) then mt_now M (64 + (6 * other.toNatClampNeg) + house.toNatClampNeg) else mt_now M (64 + (6 * house.toNatClampNeg) + other.toNatClampNeg) : Int32)] := by
          refine z_istore hX dX4_net_50 52 rfl (Nat.le_of_ble_eq_true rfl) rfl (L' := [(0, .ref o), (1, .int (nI house.toNatClampNeg)), (2, .int (nI other.toNatClampNeg)), (3, .int (mt_now M (64 + (6 * house.toNatClampNeg) + other.toNatClampNeg))), (4, .int (mt_now M (64 + (6 * other.toNatClampNeg) + house.toNatClampNeg))), (5, .int (if (mt_now M (64 + (6 * other.toNatClampNeg) + house.toNatClampNeg)) ≤ (mt_now M (64 + (6 * house.toNatClampNeg) + other.toNatClampNeg)) then mt_now M (64 + (6 * other.toNatClampNeg) + house.toNatClampNeg) else mt_now M (64 + (6 * house.toNatClampNeg) + other.toNatClampNeg) : Int32))]) rfl ?_
          refine z_iload hX dX4_net_52 54 rfl 5 rfl ?_
          refine z_if_ne hX dX4_net_54 57 rfl (tgt := 59) (by decide) (fun c6 => ?_) (fun c6 => ?_)
          ·
            refine z_aload_n hX dX4_net_59 60 rfl (i := 0) rfl 0 rfl ?_
            refine z_callVv hX cwX4_234 (met_X4_remembers hG hM.1 hU) hM.1.o rfl rfl dX4_net_60 63 rfl rfl rfl (Nat.le_of_ble_eq_true rfl) (by decide) ⟨Nat.zero_le _, Nat.zero_le _⟩ (fun G hhM => ?_)
            have hM := zMs.tr hM hhM
            have hM : zMs g G0 G o (ms_undoMany (ms_undos M (x4_remembers_undos (mt_now M) (mt_undos M) U)) (x4_remembers_undoMany U)) := hM
            refine z_aload_n hX dX4_net_63 64 rfl (i := 0) rfl 0 rfl ?_
            refine z_getf hX fX4_7 hM.1.o dX4_net_64 67 rfl (x := .ref (o + 1)) rfl ?_
            refine z_bipush hX dX4_net_67 69 rfl zkb_64 ?_
            refine z_bipush hX dX4_net_69 71 rfl zkb_6 ?_
            refine z_iload_n hX dX4_net_71 72 rfl (i := 1) rfl 1 rfl ?_
            refine z_imul hX dX4_net_72 73 rfl (w := nI (6 * house.toNatClampNeg)) (pk_mul 6 house.toNatClampNeg) ?_
            refine z_iadd hX dX4_net_73 74 rfl (w := nI (64 + (6 * house.toNatClampNeg))) (nI_add 64 (6 * house.toNatClampNeg)) ?_
            refine z_iload_n hX dX4_net_74 75 rfl (i := 2) rfl 2 rfl ?_
            refine z_iadd hX dX4_net_75 76 rfl (w := nI (64 + (6 * house.toNatClampNeg) + other.toNatClampNeg)) (nI_add (64 + (6 * house.toNatClampNeg)) other.toNatClampNeg) ?_
            refine z_dup2_11 hX dX4_net_76 77 rfl rfl rfl ?_
            refine m_ald_now hX hM (64 + (6 * house.toNatClampNeg) + other.toNatClampNeg) (by omega) dX4_net_77 78 rfl (w := mt_now M (64 + (6 * house.toNatClampNeg) + other.toNatClampNeg)) (congrFun ((mg_now_undoMany _ _).trans (mg_now_undos _ _)) (64 + (6 * house.toNatClampNeg) + other.toNatClampNeg)) ?_
            refine z_iload hX dX4_net_78 80 rfl 5 rfl ?_
            refine z_isub hX dX4_net_80 81 rfl (w := (mt_now M (64 + (6 * house.toNatClampNeg) + other.toNatClampNeg)) - (if (mt_now M (64 + (6 * other.toNatClampNeg) + house.toNatClampNeg)) ≤ (mt_now M (64 + (6 * house.toNatClampNeg) + other.toNatClampNeg)) then mt_now M (64 + (6 * other.toNatClampNeg) + house.toNatClampNeg) else mt_now M (64 + (6 * house.toNatClampNeg) + other.toNatClampNeg) : Int32)) rfl ?_
            refine m_ast_now hX hM (64 + (6 * house.toNatClampNeg) + other.toNatClampNeg) (by omega) dX4_net_81 82 rfl (fun G hM => ?_)
            have hM : zMs g G0 G o (ms_undoMany (ms_undos (ms_now M (upd (mt_now M) (64 + (6 * house.toNatClampNeg) + other.toNatClampNeg) ((mt_now M (64 + (6 * house.toNatClampNeg) + other.toNatClampNeg)) - (if (mt_now M (64 + (6 * other.toNatClampNeg) + house.toNatClampNeg)) ≤ (mt_now M (64 + (6 * house.toNatClampNeg) + other.toNatClampNeg)) then mt_now M (64 + (6 * other.toNatClampNeg) + house.toNatClampNeg) else mt_now M (64 + (6 * house.toNatClampNeg) + other.toNatClampNeg) : Int32)))) (x4_remembers_undos (mt_now M) (mt_undos M) U)) (x4_remembers_undoMany U)) := by simpa only [mg_now_undos, mg_now_undoMany, mc_now_undos, mc_now_undoMany, mm_now, mc_undos_undoMany, mm_undos, mm_undoMany] using hM
            refine z_aload_n hX dX4_net_82 83 rfl (i := 0) rfl 0 rfl ?_
            refine z_getf hX fX4_7 hM.1.o dX4_net_83 86 rfl (x := .ref (o + 1)) rfl ?_
            refine z_bipush hX dX4_net_86 88 rfl zkb_64 ?_
            refine z_bipush hX dX4_net_88 90 rfl zkb_6 ?_
            refine z_iload_n hX dX4_net_90 91 rfl (i := 2) rfl 2 rfl ?_
            refine z_imul hX dX4_net_91 92 rfl (w := nI (6 * other.toNatClampNeg)) (pk_mul 6 other.toNatClampNeg) ?_
            refine z_iadd hX dX4_net_92 93 rfl (w := nI (64 + (6 * other.toNatClampNeg))) (nI_add 64 (6 * other.toNatClampNeg)) ?_
            refine z_iload_n hX dX4_net_93 94 rfl (i := 1) rfl 1 rfl ?_
            refine z_iadd hX dX4_net_94 95 rfl (w := nI (64 + (6 * other.toNatClampNeg) + house.toNatClampNeg)) (nI_add (64 + (6 * other.toNatClampNeg)) house.toNatClampNeg) ?_
            refine z_dup2_11 hX dX4_net_95 96 rfl rfl rfl ?_
            refine m_ald_now hX hM (64 + (6 * other.toNatClampNeg) + house.toNatClampNeg) (by omega) dX4_net_96 97 rfl (w := (upd (mt_now M) (64 + (6 * house.toNatClampNeg) + other.toNatClampNeg) ((mt_now M (64 + (6 * house.toNatClampNeg) + other.toNatClampNeg)) - (if (mt_now M (64 + (6 * other.toNatClampNeg) + house.toNatClampNeg)) ≤ (mt_now M (64 + (6 * house.toNatClampNeg) + other.toNatClampNeg)) then mt_now M (64 + (6 * other.toNatClampNeg) + house.toNatClampNeg) else mt_now M (64 + (6 * house.toNatClampNeg) + other.toNatClampNeg) : Int32))) (64 + (6 * other.toNatClampNeg) + house.toNatClampNeg)) (congrFun ((mg_now_undoMany _ _).trans ((mg_now_undos _ _).trans (mgs_now _ _))) (64 + (6 * other.toNatClampNeg) + house.toNatClampNeg)) ?_
            refine z_iload hX dX4_net_97 99 rfl 5 rfl ?_
            refine z_isub hX dX4_net_99 100 rfl (w := ((upd (mt_now M) (64 + (6 * house.toNatClampNeg) + other.toNatClampNeg) ((mt_now M (64 + (6 * house.toNatClampNeg) + other.toNatClampNeg)) - (if (mt_now M (64 + (6 * other.toNatClampNeg) + house.toNatClampNeg)) ≤ (mt_now M (64 + (6 * house.toNatClampNeg) + other.toNatClampNeg)) then mt_now M (64 + (6 * other.toNatClampNeg) + house.toNatClampNeg) else mt_now M (64 + (6 * house.toNatClampNeg) + other.toNatClampNeg) : Int32))) (64 + (6 * other.toNatClampNeg) + house.toNatClampNeg)) - (if (mt_now M (64 + (6 * other.toNatClampNeg) + house.toNatClampNeg)) ≤ (mt_now M (64 + (6 * house.toNatClampNeg) + other.toNatClampNeg)) then mt_now M (64 + (6 * other.toNatClampNeg) + house.toNatClampNeg) else mt_now M (64 + (6 * house.toNatClampNeg) + other.toNatClampNeg) : Int32)) rfl ?_
            refine m_ast_now hX hM (64 + (6 * other.toNatClampNeg) + house.toNatClampNeg) (by omega) dX4_net_100 101 rfl (fun G hM => ?_)
            have hM : zMs g G0 G o (ms_undoMany (ms_undos (ms_now M (upd (upd (mt_now M) (64 + (6 * house.toNatClampNeg) + other.toNatClampNeg) ((mt_now M (64 + (6 * house.toNatClampNeg) + other.toNatClampNeg)) - (if (mt_now M (64 + (6 * other.toNatClampNeg) + house.toNatClampNeg)) ≤ (mt_now M (64 + (6 * house.toNatClampNeg) + other.toNatClampNeg)) then mt_now M (64 + (6 * other.toNatClampNeg) + house.toNatClampNeg) else mt_now M (64 + (6 * house.toNatClampNeg) + other.toNatClampNeg) : Int32))) (64 + (6 * other.toNatClampNeg) + house.toNatClampNeg) (((upd (mt_now M) (64 + (6 * house.toNatClampNeg) + other.toNatClampNeg) ((mt_now M (64 + (6 * house.toNatClampNeg) + other.toNatClampNeg)) - (if (mt_now M (64 + (6 * other.toNatClampNeg) + house.toNatClampNeg)) ≤ (mt_now M (64 + (6 * house.toNatClampNeg) + other.toNatClampNeg)) then mt_now M (64 + (6 * other.toNatClampNeg) + house.toNatClampNeg) else mt_now M (64 + (6 * house.toNatClampNeg) + other.toNatClampNeg) : Int32))) (64 + (6 * other.toNatClampNeg) + house.toNatClampNeg)) - (if (mt_now M (64 + (6 * other.toNatClampNeg) + house.toNatClampNeg)) ≤ (mt_now M (64 + (6 * house.toNatClampNeg) + other.toNatClampNeg)) then mt_now M (64 + (6 * other.toNatClampNeg) + house.toNatClampNeg) else mt_now M (64 + (6 * house.toNatClampNeg) + other.toNatClampNeg) : Int32)))) (x4_remembers_undos (mt_now M) (mt_undos M) U)) (x4_remembers_undoMany U)) := by simpa only [mg_now_undos, mg_now_undoMany, mgs_now, mc_now_undos, mc_now_undoMany, mm_now, mc_undos_undoMany, mm_undos, mm_undoMany] using hM
            refine z_iload hX dX4_net_101 103 rfl 5 rfl ?_
            exact z_iret hX hQ (Nat.zero_le _) (Nat.zero_le _) rfl dX4_net_103 ⟨(by first | (simp only [if_pos c1, if_pos c2, if_neg c3, if_neg c6] <;> rfl; done) | grind), (by first | (simpa only [if_pos c1, if_pos c2, if_neg c3, if_neg c6, me_now, me_undos, me_undoMany] using hM) | (simpa only [if_pos c1, if_pos c2, if_neg c3, if_neg c6, me2_now, me2_undos, me2_undoMany, mg_undos_now, mg_undoMany_now, mg_undoMany_undos] using hM))⟩
          ·
            refine z_iconst hX dX4_net_57 58 rfl zki_m1 ?_
            exact z_iret hX hQ (Nat.zero_le _) (Nat.zero_le _) rfl dX4_net_58 ⟨(by first | (simp only [if_pos c1, if_pos c2, if_neg c3, if_pos c6] <;> rfl; done) | grind), (by first | (simpa only [if_pos c1, if_pos c2, if_neg c3, if_pos c6, me_now, me_undos, me_undoMany] using hM) | (simpa only [if_pos c1, if_pos c2, if_neg c3, if_pos c6, me2_now, me2_undos, me2_undoMany, mg_undos_now, mg_undoMany_now, mg_undoMany_undos] using hM))⟩
        refine z_icmp_ge hX dX4_net_41 44 rfl (tgt := 48) (by decide) (fun c4 => ?_) (fun c4 => ?_)
        ·
          refine z_iload hX dX4_net_48 50 rfl 4 rfl ?_
          exact z_eqL rfl (by first | (simp only [if_pos c1, if_pos c2, if_neg c3, if_pos c4] <;> rfl; done) | grind) J5
        ·
          refine z_iload_n hX dX4_net_44 45 rfl (i := 3) rfl 3 rfl ?_
          refine z_goto hX dX4_net_45 (tgt := 50) (by decide) ?_
          exact z_eqL rfl (by first | (simp only [if_pos c1, if_pos c2, if_neg c3, if_neg c4] <;> rfl; done) | grind) J5
      ·
        refine z_iconst hX dX4_net_21 22 rfl zki_m1 ?_
        exact z_iret hX hQ (Nat.zero_le _) (Nat.zero_le _) rfl dX4_net_22 ⟨(by first | (simp only [if_pos c1, if_pos c2, if_pos c3] <;> rfl; done) | grind), (by first | (simpa only [if_pos c1, if_pos c2, if_pos c3, me_now, me_undos, me_undoMany] using hM) | (simpa only [if_pos c1, if_pos c2, if_pos c3, me2_now, me2_undos, me2_undoMany, mg_undos_now, mg_undoMany_now, mg_undoMany_undos] using hM))⟩
def x4_clears_l2 (h : Nat) (ini : Nat → Int32) (k : Nat) : Nat → Int32 := zfold k (fun j1 cj1 => upd cj1 (10 + (5 * h) + j1) 0) ini
theorem x4_clears_l2_0 (h : Nat) (ini : Nat → Int32) : x4_clears_l2 h ini 0 = ini := (zfold_0 _ _).trans (Eq.refl _)
def x4_clears_l29 (h : Nat) (ini : Nat → Int32) (k : Nat) : Nat → Int32 := zfold k (fun j2 cj2 => upd cj2 (40 + (4 * h) + j2) 0) ini
theorem x4_clears_l29_0 (h : Nat) (ini : Nat → Int32) : x4_clears_l29 h ini 0 = ini := (zfold_0 _ _).trans (Eq.refl _)
def x4_clears_l56 (h : Nat) (ini : Nat → Int32) (k : Nat) : Nat → Int32 := zfold k (fun j3 cj3 => upd cj3 (64 + (6 * h) + j3) 0) ini
theorem x4_clears_l56_0 (h : Nat) (ini : Nat → Int32) : x4_clears_l56 h ini 0 = ini := (zfold_0 _ _).trans (Eq.refl _)
def x4_clears_now (m_now : Nat → Int32) (h : Nat) : Nat → Int32 := x4_clears_l56 h (x4_clears_l29 h (x4_clears_l2 h (m_now) 5) 4) 6
set_option maxHeartbeats 4000000 in
theorem met_X4_clears {g : Zg} (hG : zG g) {G0 : zHG} {o : Nat} {M : MT} (hM : zMo g G0 o M) (h : Nat)  (h_h : h < 6)  : ZM g yX4_clears cX4_clears 3 none 1 0 0 [.ref o, .int (nI h)] G0 (fun r G' => r = none ∧ zMs g G0 G' o (ms_now M (x4_clears_now (mt_now M) h))) := by
  unfold x4_clears_now
  refine ZM_mk hG (by decide) (Nat.le_of_ble_eq_true rfl) ?_
  intro X hX hname hQ
  obtain ⟨G, hGe⟩ : ∃ z, z = G0 := ⟨_, rfl⟩
  have hM : zMs g G0 G o M := by rw [hGe]; exact zMs.rf hM
  show ZW g X 0 0 G0 0 [(0, .ref o), (1, .int (nI h))] []
  rw [← hGe]
  refine z_iconst hX dX4_clears_0 1 rfl zki_0 ?_
  refine z_istore_n hX dX4_clears_1 2 rfl (i := 2) rfl (Nat.le_of_ble_eq_true rfl) rfl (L' := [(0, .ref o), (1, .int (nI h)), (2, .int 0)]) rfl ?_
  have E2 : ∀ G : zHG, zMs g G0 G o (ms_now M (x4_clears_l2 h (mt_now M) 5)) → ZW g X 0 0 G 27 [(0, .ref o), (1, .int (nI h)), (2, .int (nI 5))] [] := by
    intro G hM
    refine z_iconst hX dX4_clears_27 28 rfl zki_0 ?_
    refine z_istore_n hX dX4_clears_28 29 rfl (i := 2) rfl (Nat.le_of_ble_eq_true rfl) rfl (L' := [(0, .ref o), (1, .int (nI h)), (2, .int 0)]) rfl ?_
    have E5 : ∀ G : zHG, zMs g G0 G o (ms_now M (x4_clears_l29 h (x4_clears_l2 h (mt_now M) 5) 4)) → ZW g X 0 0 G 54 [(0, .ref o), (1, .int (nI h)), (2, .int (nI 4))] [] := by
      intro G hM
      refine z_iconst hX dX4_clears_54 55 rfl zki_0 ?_
      refine z_istore_n hX dX4_clears_55 56 rfl (i := 2) rfl (Nat.le_of_ble_eq_true rfl) rfl (L' := [(0, .ref o), (1, .int (nI h)), (2, .int 0)]) rfl ?_
      have E8 : ∀ G : zHG, zMs g G0 G o (ms_now M (x4_clears_l56 h (x4_clears_l29 h (x4_clears_l2 h (mt_now M) 5) 4) 6)) → ZW g X 0 0 G 83 [(0, .ref o), (1, .int (nI h)), (2, .int (nI 6))] [] := by
        intro G hM
        exact z_vret hX hQ (Nat.zero_le _) (Nat.zero_le _) rfl dX4_clears_83 ⟨rfl, hM⟩
      have Lp9 : ∀ k j7 : Nat, j7 + k = 6 → ∀ G : zHG, zMs g G0 G o (ms_now M (x4_clears_l56 h (x4_clears_l29 h (x4_clears_l2 h (mt_now M) 5) 4) j7)) → ZW g X 0 0 G 56 [(0, .ref o), (1, .int (nI h)), (2, .int (nI j7))] [] := by
        intro k
        induction k with
        | zero =>
          intro j7 hj7 G hM
          rw [show j7 = 6 from by omega] at hM ⊢
          refine z_iload_n hX dX4_clears_56 57 rfl (i := 2) rfl 2 rfl ?_
          refine z_bipush hX dX4_clears_57 59 rfl zkb_6 ?_
          refine z_icmp_geN hX 6 6 (by omega) (by omega) dX4_clears_59 62 rfl (tgt := 83) (by decide) (fun c10 => ?_) (fun c10 => ?_)
          · exact E8 _ hM
          · exact absurd c10 (by omega)
        | succ k ih =>
          intro j7 hj7 G hM
          refine z_iload_n hX dX4_clears_56 57 rfl (i := 2) rfl 2 rfl ?_
          refine z_bipush hX dX4_clears_57 59 rfl zkb_6 ?_
          refine z_icmp_geN hX j7 6 (by omega) (by omega) dX4_clears_59 62 rfl (tgt := 83) (by decide) (fun c11 => ?_) (fun c11 => ?_)
          · exact absurd c11 (by omega)
          ·
            refine z_aload_n hX dX4_clears_62 63 rfl (i := 0) rfl 0 rfl ?_
            refine z_getf hX fX4_7 hM.1.o dX4_clears_63 66 rfl (x := .ref (o + 1)) rfl ?_
            refine z_bipush hX dX4_clears_66 68 rfl zkb_64 ?_
            refine z_bipush hX dX4_clears_68 70 rfl zkb_6 ?_
            refine z_iload_n hX dX4_clears_70 71 rfl (i := 1) rfl 1 rfl ?_
            refine z_imul hX dX4_clears_71 72 rfl (w := nI (6 * h)) (pk_mul 6 h) ?_
            refine z_iadd hX dX4_clears_72 73 rfl (w := nI (64 + (6 * h))) (nI_add 64 (6 * h)) ?_
            refine z_iload_n hX dX4_clears_73 74 rfl (i := 2) rfl 2 rfl ?_
            refine z_iadd hX dX4_clears_74 75 rfl (w := nI (64 + (6 * h) + j7)) (nI_add (64 + (6 * h)) j7) ?_
            refine z_iconst hX dX4_clears_75 76 rfl zki_0 ?_
            refine m_ast_now hX hM (64 + (6 * h) + j7) (by omega) dX4_clears_76 77 rfl (fun G hM => ?_)
            have hM : zMs g G0 G o (ms_now M (upd (x4_clears_l56 h (x4_clears_l29 h (x4_clears_l2 h (mt_now M) 5) 4) j7) (64 + (6 * h) + j7) 0)) := by simpa only [mgs_now, mm_now] using hM
            refine z_iinc hX dX4_clears_77 80 rfl 2 rfl (w := nI (j7 + 1)) (nI_1 j7) (Nat.le_of_ble_eq_true rfl) rfl (L' := [(0, .ref o), (1, .int (nI h)), (2, .int (nI (j7 + 1)))]) rfl ?_
            refine z_goto hX dX4_clears_80 (tgt := 56) (by decide) ?_
            exact ih (j7 + 1) (by omega) _ hM
      have hM : zMs g G0 G o (ms_now M (x4_clears_l56 h (x4_clears_l29 h (x4_clears_l2 h (mt_now M) 5) 4) 0)) := by simpa only [x4_clears_l56_0, me_now, mm_now] using hM
      exact Lp9 6 0 (by omega) _ hM
    have Lp6 : ∀ k j4 : Nat, j4 + k = 4 → ∀ G : zHG, zMs g G0 G o (ms_now M (x4_clears_l29 h (x4_clears_l2 h (mt_now M) 5) j4)) → ZW g X 0 0 G 29 [(0, .ref o), (1, .int (nI h)), (2, .int (nI j4))] [] := by
      intro k
      induction k with
      | zero =>
        intro j4 hj4 G hM
        rw [show j4 = 4 from by omega] at hM ⊢
        refine z_iload_n hX dX4_clears_29 30 rfl (i := 2) rfl 2 rfl ?_
        refine z_iconst hX dX4_clears_30 31 rfl zki_4 ?_
        refine z_icmp_geN hX 4 4 (by omega) (by omega) dX4_clears_31 34 rfl (tgt := 54) (by decide) (fun c12 => ?_) (fun c12 => ?_)
        · exact E5 _ hM
        · exact absurd c12 (by omega)
      | succ k ih =>
        intro j4 hj4 G hM
        refine z_iload_n hX dX4_clears_29 30 rfl (i := 2) rfl 2 rfl ?_
        refine z_iconst hX dX4_clears_30 31 rfl zki_4 ?_
        refine z_icmp_geN hX j4 4 (by omega) (by omega) dX4_clears_31 34 rfl (tgt := 54) (by decide) (fun c13 => ?_) (fun c13 => ?_)
        · exact absurd c13 (by omega)
        ·
          refine z_aload_n hX dX4_clears_34 35 rfl (i := 0) rfl 0 rfl ?_
          refine z_getf hX fX4_7 hM.1.o dX4_clears_35 38 rfl (x := .ref (o + 1)) rfl ?_
          refine z_bipush hX dX4_clears_38 40 rfl zkb_40 ?_
          refine z_iconst hX dX4_clears_40 41 rfl zki_4 ?_
          refine z_iload_n hX dX4_clears_41 42 rfl (i := 1) rfl 1 rfl ?_
          refine z_imul hX dX4_clears_42 43 rfl (w := nI (4 * h)) (pk_mul 4 h) ?_
          refine z_iadd hX dX4_clears_43 44 rfl (w := nI (40 + (4 * h))) (nI_add 40 (4 * h)) ?_
          refine z_iload_n hX dX4_clears_44 45 rfl (i := 2) rfl 2 rfl ?_
          refine z_iadd hX dX4_clears_45 46 rfl (w := nI (40 + (4 * h) + j4)) (nI_add (40 + (4 * h)) j4) ?_
          refine z_iconst hX dX4_clears_46 47 rfl zki_0 ?_
          refine m_ast_now hX hM (40 + (4 * h) + j4) (by omega) dX4_clears_47 48 rfl (fun G hM => ?_)
          have hM : zMs g G0 G o (ms_now M (upd (x4_clears_l29 h (x4_clears_l2 h (mt_now M) 5) j4) (40 + (4 * h) + j4) 0)) := by simpa only [mgs_now, mm_now] using hM
          refine z_iinc hX dX4_clears_48 51 rfl 2 rfl (w := nI (j4 + 1)) (nI_1 j4) (Nat.le_of_ble_eq_true rfl) rfl (L' := [(0, .ref o), (1, .int (nI h)), (2, .int (nI (j4 + 1)))]) rfl ?_
          refine z_goto hX dX4_clears_51 (tgt := 29) (by decide) ?_
          exact ih (j4 + 1) (by omega) _ hM
    have hM : zMs g G0 G o (ms_now M (x4_clears_l29 h (x4_clears_l2 h (mt_now M) 5) 0)) := by simpa only [x4_clears_l29_0, me_now, mm_now] using hM
    exact Lp6 4 0 (by omega) _ hM
  have Lp3 : ∀ k j1 : Nat, j1 + k = 5 → ∀ G : zHG, zMs g G0 G o (ms_now M (x4_clears_l2 h (mt_now M) j1)) → ZW g X 0 0 G 2 [(0, .ref o), (1, .int (nI h)), (2, .int (nI j1))] [] := by
    intro k
    induction k with
    | zero =>
      intro j1 hj1 G hM
      rw [show j1 = 5 from by omega] at hM ⊢
      refine z_iload_n hX dX4_clears_2 3 rfl (i := 2) rfl 2 rfl ?_
      refine z_iconst hX dX4_clears_3 4 rfl zki_5 ?_
      refine z_icmp_geN hX 5 5 (by omega) (by omega) dX4_clears_4 7 rfl (tgt := 27) (by decide) (fun c14 => ?_) (fun c14 => ?_)
      · exact E2 _ hM
      · exact absurd c14 (by omega)
    | succ k ih =>
      intro j1 hj1 G hM
      refine z_iload_n hX dX4_clears_2 3 rfl (i := 2) rfl 2 rfl ?_
      refine z_iconst hX dX4_clears_3 4 rfl zki_5 ?_
      refine z_icmp_geN hX j1 5 (by omega) (by omega) dX4_clears_4 7 rfl (tgt := 27) (by decide) (fun c15 => ?_) (fun c15 => ?_)
      · exact absurd c15 (by omega)
      ·
        refine z_aload_n hX dX4_clears_7 8 rfl (i := 0) rfl 0 rfl ?_
        refine z_getf hX fX4_7 hM.1.o dX4_clears_8 11 rfl (x := .ref (o + 1)) rfl ?_
        refine z_bipush hX dX4_clears_11 13 rfl zkb_10 ?_
        refine z_iconst hX dX4_clears_13 14 rfl zki_5 ?_
        refine z_iload_n hX dX4_clears_14 15 rfl (i := 1) rfl 1 rfl ?_
        refine z_imul hX dX4_clears_15 16 rfl (w := nI (5 * h)) (pk_mul 5 h) ?_
        refine z_iadd hX dX4_clears_16 17 rfl (w := nI (10 + (5 * h))) (nI_add 10 (5 * h)) ?_
        refine z_iload_n hX dX4_clears_17 18 rfl (i := 2) rfl 2 rfl ?_
        refine z_iadd hX dX4_clears_18 19 rfl (w := nI (10 + (5 * h) + j1)) (nI_add (10 + (5 * h)) j1) ?_
        refine z_iconst hX dX4_clears_19 20 rfl zki_0 ?_
        refine m_ast_now hX hM (10 + (5 * h) + j1) (by omega) dX4_clears_20 21 rfl (fun G hM => ?_)
        have hM : zMs g G0 G o (ms_now M (upd (x4_clears_l2 h (mt_now M) j1) (10 + (5 * h) + j1) 0)) := by simpa only [mgs_now, mm_now] using hM
        refine z_iinc hX dX4_clears_21 24 rfl 2 rfl (w := nI (j1 + 1)) (nI_1 j1) (Nat.le_of_ble_eq_true rfl) rfl (L' := [(0, .ref o), (1, .int (nI h)), (2, .int (nI (j1 + 1)))]) rfl ?_
        refine z_goto hX dX4_clears_24 (tgt := 2) (by decide) ?_
        exact ih (j1 + 1) (by omega) _ hM
  have hM : zMs g G0 G o (ms_now M (x4_clears_l2 h (mt_now M) 0)) := by simpa only [x4_clears_l2_0, me_now, mm_now] using hM
  exact Lp3 5 0 (by omega) _ hM
def x4_goes_l19 (house : Nat) (j1 : Nat) (ini : Nat → Int32) (k : Nat) : Nat → Int32 := zfold k (fun j5 cj5 => upd cj5 (10 + (5 * (house + j1)) + j5) (cj5 (10 + (5 * (house + j1 + 1)) + j5))) ini
theorem x4_goes_l19_0 (house : Nat) (j1 : Nat) (ini : Nat → Int32) : x4_goes_l19 house j1 ini 0 = ini := (zfold_0 _ _).trans (Eq.refl _)
def x4_goes_l57 (house : Nat) (j1 : Nat) (ini : Nat → Int32) (k : Nat) : Nat → Int32 := zfold k (fun j6 cj6 => upd cj6 (40 + (4 * (house + j1)) + j6) (cj6 (40 + (4 * (house + j1 + 1)) + j6))) ini
theorem x4_goes_l57_0 (house : Nat) (j1 : Nat) (ini : Nat → Int32) : x4_goes_l57 house j1 ini 0 = ini := (zfold_0 _ _).trans (Eq.refl _)
def x4_goes_l95 (house : Nat) (j1 : Nat) (ini : Nat → Int32) (k : Nat) : Nat → Int32 := zfold k (fun j7 cj7 => upd cj7 (64 + (6 * (house + j1)) + j7) (cj7 (64 + (6 * (house + j1 + 1)) + j7))) ini
theorem x4_goes_l95_0 (house : Nat) (j1 : Nat) (ini : Nat → Int32) : x4_goes_l95 house j1 ini 0 = ini := (zfold_0 _ _).trans (Eq.refl _)
def x4_goes_l9 (house : Nat) (ini : Nat → Int32) (k : Nat) : Nat → Int32 := zfold k (fun j1 cj1 => x4_goes_l95 house j1 (x4_goes_l57 house j1 (x4_goes_l19 house j1 cj1 5) 4) 6) ini
theorem x4_goes_l9_0 (house : Nat) (ini : Nat → Int32) : x4_goes_l9 house ini 0 = ini := (zfold_0 _ _).trans (Eq.refl _)
def x4_goes_l149 (house : Nat) (j2 : Nat) (ini : Nat → Int32) (k : Nat) : Nat → Int32 := zfold k (fun j4 cj4 => upd cj4 (64 + (6 * j2) + (house + j4)) (cj4 (64 + (6 * j2) + (house + j4 + 1)))) ini
theorem x4_goes_l149_0 (house : Nat) (j2 : Nat) (ini : Nat → Int32) : x4_goes_l149 house j2 ini 0 = ini := (zfold_0 _ _).trans (Eq.refl _)
def x4_goes_l140 (house : Nat) (ini : Nat → Int32) (k : Nat) : Nat → Int32 := zfold k (fun j2 cj2 => upd (x4_goes_l149 house j2 cj2 (5 - house)) (64 + (6 * j2) + 5) 0) ini
theorem x4_goes_l140_0 (house : Nat) (ini : Nat → Int32) : x4_goes_l140 house ini 0 = ini := (zfold_0 _ _).trans (Eq.refl _)
def x4_goes_now (m_now : Nat → Int32) (H : Nat) (house : Nat) : Nat → Int32 := upd (x4_clears_now (x4_goes_l140 house (x4_goes_l9 house (m_now) (H - 1 - house)) 6) (H - 1)) 1 (((x4_clears_now (x4_goes_l140 house (x4_goes_l9 house (m_now) (H - 1 - house)) 6) (H - 1)) 1) - 1)
set_option maxHeartbeats 4000000 in
theorem met_X4_goes {g : Zg} (hG : zG g) {G0 : zHG} {o : Nat} {M : MT} (hM : zMo g G0 o M) {A H : Nat} {K : Nat → Nat} (hN : zWf (mt_now M) A H K) (house : Nat)  (h_house : house < 6) (hf0 : house < H) : ZM g yX4_goes cX4_goes 5 none 3 0 0 [.ref o, .int (nI house)] G0 (fun r G' => r = none ∧ zMs g G0 G' o (ms_now M (x4_goes_now (mt_now M) H house))) := by
  unfold x4_goes_now
  have hN2 := hN.2.1
  have hN4 := hN.2.2.2.1
  refine ZM_mk hG (by decide) (Nat.le_of_ble_eq_true rfl) ?_
  intro X hX hname hQ
  obtain ⟨G, hGe⟩ : ∃ z, z = G0 := ⟨_, rfl⟩
  have hM : zMs g G0 G o M := by rw [hGe]; exact zMs.rf hM
  show ZW g X 0 0 G0 0 [(0, .ref o), (1, .int (nI house))] []
  rw [← hGe]
  refine z_aload_n hX dX4_goes_0 1 rfl (i := 0) rfl 0 rfl ?_
  refine z_getf hX fX4_7 hM.1.o dX4_goes_1 4 rfl (x := .ref (o + 1)) rfl ?_
  refine z_iconst hX dX4_goes_4 5 rfl zki_1 ?_
  refine m_ald_now hX hM 1 (by omega) dX4_goes_5 6 rfl (w := nI H) hN.2.2.1 ?_
  refine z_istore_n hX dX4_goes_6 7 rfl (i := 2) rfl (Nat.le_of_ble_eq_true rfl) rfl (L' := [(0, .ref o), (1, .int (nI house)), (2, .int (nI H))]) rfl ?_
  refine z_iload_n hX dX4_goes_7 8 rfl (i := 1) rfl 1 rfl ?_
  refine z_istore_n hX dX4_goes_8 9 rfl (i := 3) rfl (Nat.le_of_ble_eq_true rfl) rfl (L' := [(0, .ref o), (1, .int (nI house)), (2, .int (nI H)), (3, .int (nI house))]) rfl ?_
  have E2 : ∀ G : zHG, zMs g G0 G o (ms_now M (x4_goes_l9 house (mt_now M) (H - 1 - house))) → ZW g X 0 0 G 138 [(0, .ref o), (1, .int (nI house)), (2, .int (nI H)), (3, .int (nI (house + (H - 1 - house))))] [] := by
    intro G hM
    refine z_iconst hX dX4_goes_138 139 rfl zki_0 ?_
    refine z_istore_n hX dX4_goes_139 140 rfl (i := 3) rfl (Nat.le_of_ble_eq_true rfl) rfl (L' := [(0, .ref o), (1, .int (nI house)), (2, .int (nI H)), (3, .int 0)]) rfl ?_
    have E5 : ∀ G : zHG, zMs g G0 G o (ms_now M (x4_goes_l140 house (x4_goes_l9 house (mt_now M) (H - 1 - house)) 6)) → ZW g X 0 0 G 206 [(0, .ref o), (1, .int (nI house)), (2, .int (nI H)), (3, .int (nI 6))] [] := by
      intro G hM
      refine z_aload_n hX dX4_goes_206 207 rfl (i := 0) rfl 0 rfl ?_
      refine z_iload_n hX dX4_goes_207 208 rfl (i := 2) rfl 2 rfl ?_
      refine z_iconst hX dX4_goes_208 209 rfl zki_1 ?_
      refine z_isub hX dX4_goes_209 210 rfl (w := nI (H - 1)) (pk_sub (a := H) (b := 1) (by omega)) ?_
      refine z_callVv hX cwX4_243 (met_X4_clears hG hM.1 (H - 1) (by omega)) hM.1.o rfl rfl dX4_goes_210 213 rfl rfl rfl (Nat.le_of_ble_eq_true rfl) (by decide) ⟨Nat.zero_le _, Nat.zero_le _⟩ (fun G hhM => ?_)
      have hM := zMs.tr hM hhM
      have hM : zMs g G0 G o (ms_now M (x4_clears_now (x4_goes_l140 house (x4_goes_l9 house (mt_now M) (H - 1 - house)) 6) (H - 1))) := by simpa only [mgs_now, mm_now] using hM
      refine z_aload_n hX dX4_goes_213 214 rfl (i := 0) rfl 0 rfl ?_
      refine z_getf hX fX4_7 hM.1.o dX4_goes_214 217 rfl (x := .ref (o + 1)) rfl ?_
      refine z_iconst hX dX4_goes_217 218 rfl zki_1 ?_
      refine z_dup2_11 hX dX4_goes_218 219 rfl rfl rfl ?_
      refine m_ald_now hX hM 1 (by omega) dX4_goes_219 220 rfl (w := (x4_clears_now (x4_goes_l140 house (x4_goes_l9 house (mt_now M) (H - 1 - house)) 6) (H - 1)) 1) (congrFun (mgs_now _ _) 1) ?_
      refine z_iconst hX dX4_goes_220 221 rfl zki_1 ?_
      refine z_isub hX dX4_goes_221 222 rfl (w := ((x4_clears_now (x4_goes_l140 house (x4_goes_l9 house (mt_now M) (H - 1 - house)) 6) (H - 1)) 1) - 1) rfl ?_
      refine m_ast_now hX hM 1 (by omega) dX4_goes_222 223 rfl (fun G hM => ?_)
      have hM : zMs g G0 G o (ms_now M (upd (x4_clears_now (x4_goes_l140 house (x4_goes_l9 house (mt_now M) (H - 1 - house)) 6) (H - 1)) 1 (((x4_clears_now (x4_goes_l140 house (x4_goes_l9 house (mt_now M) (H - 1 - house)) 6) (H - 1)) 1) - 1))) := by simpa only [mgs_now, mm_now] using hM
      exact z_vret hX hQ (Nat.zero_le _) (Nat.zero_le _) rfl dX4_goes_223 ⟨rfl, hM⟩
    have Lp6 : ∀ k j4 : Nat, j4 + k = 6 → ∀ G : zHG, zMs g G0 G o (ms_now M (x4_goes_l140 house (x4_goes_l9 house (mt_now M) (H - 1 - house)) j4)) → ZW g X 0 0 G 140 [(0, .ref o), (1, .int (nI house)), (2, .int (nI H)), (3, .int (nI j4))] [] := by
      intro k
      induction k with
      | zero =>
        intro j4 hj4 G hM
        rw [show j4 = 6 from by omega] at hM ⊢
        refine z_iload_n hX dX4_goes_140 141 rfl (i := 3) rfl 3 rfl ?_
        refine z_bipush hX dX4_goes_141 143 rfl zkb_6 ?_
        refine z_icmp_geN hX 6 6 (by omega) (by omega) dX4_goes_143 146 rfl (tgt := 206) (by decide) (fun c7 => ?_) (fun c7 => ?_)
        · exact E5 _ hM
        · exact absurd c7 (by omega)
      | succ k ih =>
        intro j4 hj4 G hM
        refine z_iload_n hX dX4_goes_140 141 rfl (i := 3) rfl 3 rfl ?_
        refine z_bipush hX dX4_goes_141 143 rfl zkb_6 ?_
        refine z_icmp_geN hX j4 6 (by omega) (by omega) dX4_goes_143 146 rfl (tgt := 206) (by decide) (fun c8 => ?_) (fun c8 => ?_)
        · exact absurd c8 (by omega)
        ·
          refine z_iload_n hX dX4_goes_146 147 rfl (i := 1) rfl 1 rfl ?_
          refine z_istore hX dX4_goes_147 149 rfl (Nat.le_of_ble_eq_true rfl) rfl (L' := [(0, .ref o), (1, .int (nI house)), (2, .int (nI H)), (3, .int (nI j4)), (4, .int (nI house))]) rfl ?_
          have E10 : ∀ G : zHG, zMs g G0 G o (ms_now M (x4_goes_l149 house j4 (x4_goes_l140 house (x4_goes_l9 house (mt_now M) (H - 1 - house)) j4) (5 - house))) → ZW g X 0 0 G 185 [(0, .ref o), (1, .int (nI house)), (2, .int (nI H)), (3, .int (nI j4)), (4, .int (nI (house + (5 - house))))] [] := by
            intro G hM
            refine z_aload_n hX dX4_goes_185 186 rfl (i := 0) rfl 0 rfl ?_
            refine z_getf hX fX4_7 hM.1.o dX4_goes_186 189 rfl (x := .ref (o + 1)) rfl ?_
            refine z_bipush hX dX4_goes_189 191 rfl zkb_64 ?_
            refine z_bipush hX dX4_goes_191 193 rfl zkb_6 ?_
            refine z_iload_n hX dX4_goes_193 194 rfl (i := 3) rfl 3 rfl ?_
            refine z_imul hX dX4_goes_194 195 rfl (w := nI (6 * j4)) (pk_mul 6 j4) ?_
            refine z_iadd hX dX4_goes_195 196 rfl (w := nI (64 + (6 * j4))) (nI_add 64 (6 * j4)) ?_
            refine z_iconst hX dX4_goes_196 197 rfl zki_5 ?_
            refine z_iadd hX dX4_goes_197 198 rfl (w := nI (64 + (6 * j4) + 5)) (nI_add (64 + (6 * j4)) 5) ?_
            refine z_iconst hX dX4_goes_198 199 rfl zki_0 ?_
            refine m_ast_now hX hM (64 + (6 * j4) + 5) (by omega) dX4_goes_199 200 rfl (fun G hM => ?_)
            have hM : zMs g G0 G o (ms_now M (upd (x4_goes_l149 house j4 (x4_goes_l140 house (x4_goes_l9 house (mt_now M) (H - 1 - house)) j4) (5 - house)) (64 + (6 * j4) + 5) 0)) := by simpa only [mgs_now, mm_now] using hM
            refine z_iinc hX dX4_goes_200 203 rfl 3 rfl (w := nI (j4 + 1)) (nI_1 j4) (Nat.le_of_ble_eq_true rfl) rfl (L' := [(0, .ref o), (1, .int (nI house)), (2, .int (nI H)), (3, .int (nI (j4 + 1))), (4, .int (nI (house + (5 - house))))]) rfl ?_
            refine z_goto hX dX4_goes_203 (tgt := 140) (by decide) ?_
            refine z_sub [0, 1, 2, 3] rfl ?_
            exact ih (j4 + 1) (by omega) _ hM
          have Lp11 : ∀ k j9 : Nat, j9 + k = (5 - house) → ∀ G : zHG, zMs g G0 G o (ms_now M (x4_goes_l149 house j4 (x4_goes_l140 house (x4_goes_l9 house (mt_now M) (H - 1 - house)) j4) j9)) → ZW g X 0 0 G 149 [(0, .ref o), (1, .int (nI house)), (2, .int (nI H)), (3, .int (nI j4)), (4, .int (nI (house + j9)))] [] := by
            intro k
            induction k with
            | zero =>
              intro j9 hj9 G hM
              rw [show j9 = (5 - house) from by omega] at hM ⊢
              refine z_iload hX dX4_goes_149 151 rfl 4 rfl ?_
              refine z_iconst hX dX4_goes_151 152 rfl zki_5 ?_
              refine z_icmp_geN hX (house + (5 - house)) 5 (by omega) (by omega) dX4_goes_152 155 rfl (tgt := 185) (by decide) (fun c12 => ?_) (fun c12 => ?_)
              · exact E10 _ hM
              · exact absurd c12 (by omega)
            | succ k ih =>
              intro j9 hj9 G hM
              refine z_iload hX dX4_goes_149 151 rfl 4 rfl ?_
              refine z_iconst hX dX4_goes_151 152 rfl zki_5 ?_
              refine z_icmp_geN hX (house + j9) 5 (by omega) (by omega) dX4_goes_152 155 rfl (tgt := 185) (by decide) (fun c13 => ?_) (fun c13 => ?_)
              · exact absurd c13 (by omega)
              ·
                refine z_aload_n hX dX4_goes_155 156 rfl (i := 0) rfl 0 rfl ?_
                refine z_getf hX fX4_7 hM.1.o dX4_goes_156 159 rfl (x := .ref (o + 1)) rfl ?_
                refine z_bipush hX dX4_goes_159 161 rfl zkb_64 ?_
                refine z_bipush hX dX4_goes_161 163 rfl zkb_6 ?_
                refine z_iload_n hX dX4_goes_163 164 rfl (i := 3) rfl 3 rfl ?_
                refine z_imul hX dX4_goes_164 165 rfl (w := nI (6 * j4)) (pk_mul 6 j4) ?_
                refine z_iadd hX dX4_goes_165 166 rfl (w := nI (64 + (6 * j4))) (nI_add 64 (6 * j4)) ?_
                refine z_iload hX dX4_goes_166 168 rfl 4 rfl ?_
                refine z_iadd hX dX4_goes_168 169 rfl (w := nI (64 + (6 * j4) + (house + j9))) (nI_add (64 + (6 * j4)) (house + j9)) ?_
                refine z_aload_n hX dX4_goes_169 170 rfl (i := 0) rfl 0 rfl ?_
                refine z_iload_n hX dX4_goes_170 171 rfl (i := 3) rfl 3 rfl ?_
                refine z_iload hX dX4_goes_171 173 rfl 4 rfl ?_
                refine z_iconst hX dX4_goes_173 174 rfl zki_1 ?_
                refine z_iadd hX dX4_goes_174 175 rfl (w := nI (house + j9 + 1)) (nI_add (house + j9) 1) ?_
                refine z_callVq hX cwX4_181 (w := .int ((x4_goes_l149 house j4 (x4_goes_l140 house (x4_goes_l9 house (mt_now M) (H - 1 - house)) j4) j9) (64 + (6 * j4) + (house + j9 + 1)))) (met_X4_loanOf hG hM.1 j4 (house + j9 + 1) (by omega) (by omega)) (by simp only [mgs_now]) hM.1.o rfl rfl dX4_goes_175 178 rfl rfl rfl (Nat.le_of_ble_eq_true rfl) (by decide) ⟨Nat.zero_le _, Nat.zero_le _⟩ ?_
                refine m_ast_now hX hM (64 + (6 * j4) + (house + j9)) (by omega) dX4_goes_178 179 rfl (fun G hM => ?_)
                have hM : zMs g G0 G o (ms_now M (upd (x4_goes_l149 house j4 (x4_goes_l140 house (x4_goes_l9 house (mt_now M) (H - 1 - house)) j4) j9) (64 + (6 * j4) + (house + j9)) ((x4_goes_l149 house j4 (x4_goes_l140 house (x4_goes_l9 house (mt_now M) (H - 1 - house)) j4) j9) (64 + (6 * j4) + (house + j9 + 1))))) := by simpa only [mgs_now, mm_now] using hM
                refine z_iinc hX dX4_goes_179 182 rfl 4 rfl (w := nI (house + j9 + 1)) (nI_1 (house + j9)) (Nat.le_of_ble_eq_true rfl) rfl (L' := [(0, .ref o), (1, .int (nI house)), (2, .int (nI H)), (3, .int (nI j4)), (4, .int (nI (house + j9 + 1)))]) rfl ?_
                refine z_goto hX dX4_goes_182 (tgt := 149) (by decide) ?_
                exact ih (j9 + 1) (by omega) _ hM
          have hM : zMs g G0 G o (ms_now M (x4_goes_l149 house j4 (x4_goes_l140 house (x4_goes_l9 house (mt_now M) (H - 1 - house)) j4) 0)) := by simpa only [x4_goes_l149_0, me_now, mm_now] using hM
          exact Lp11 (5 - house) 0 (by omega) _ hM
    have hM : zMs g G0 G o (ms_now M (x4_goes_l140 house (x4_goes_l9 house (mt_now M) (H - 1 - house)) 0)) := by simpa only [x4_goes_l140_0, me_now, mm_now] using hM
    exact Lp6 6 0 (by omega) _ hM
  have Lp3 : ∀ k j1 : Nat, j1 + k = (H - 1 - house) → ∀ G : zHG, zMs g G0 G o (ms_now M (x4_goes_l9 house (mt_now M) j1)) → ZW g X 0 0 G 9 [(0, .ref o), (1, .int (nI house)), (2, .int (nI H)), (3, .int (nI (house + j1)))] [] := by
    intro k
    induction k with
    | zero =>
      intro j1 hj1 G hM
      rw [show j1 = (H - 1 - house) from by omega] at hM ⊢
      refine z_iload_n hX dX4_goes_9 10 rfl (i := 3) rfl 3 rfl ?_
      refine z_iload_n hX dX4_goes_10 11 rfl (i := 2) rfl 2 rfl ?_
      refine z_iconst hX dX4_goes_11 12 rfl zki_1 ?_
      refine z_isub hX dX4_goes_12 13 rfl (w := nI (H - 1)) (pk_sub (a := H) (b := 1) (by omega)) ?_
      refine z_icmp_geN hX (house + (H - 1 - house)) (H - 1) (by omega) (by omega) dX4_goes_13 16 rfl (tgt := 138) (by decide) (fun c14 => ?_) (fun c14 => ?_)
      · exact E2 _ hM
      · exact absurd c14 (by omega)
    | succ k ih =>
      intro j1 hj1 G hM
      refine z_iload_n hX dX4_goes_9 10 rfl (i := 3) rfl 3 rfl ?_
      refine z_iload_n hX dX4_goes_10 11 rfl (i := 2) rfl 2 rfl ?_
      refine z_iconst hX dX4_goes_11 12 rfl zki_1 ?_
      refine z_isub hX dX4_goes_12 13 rfl (w := nI (H - 1)) (pk_sub (a := H) (b := 1) (by omega)) ?_
      refine z_icmp_geN hX (house + j1) (H - 1) (by omega) (by omega) dX4_goes_13 16 rfl (tgt := 138) (by decide) (fun c15 => ?_) (fun c15 => ?_)
      · exact absurd c15 (by omega)
      ·
        refine z_iconst hX dX4_goes_16 17 rfl zki_0 ?_
        refine z_istore hX dX4_goes_17 19 rfl (Nat.le_of_ble_eq_true rfl) rfl (L' := [(0, .ref o), (1, .int (nI house)), (2, .int (nI H)), (3, .int (nI (house + j1))), (4, .int 0)]) rfl ?_
        have E17 : ∀ G : zHG, zMs g G0 G o (ms_now M (x4_goes_l19 house j1 (x4_goes_l9 house (mt_now M) j1) 5)) → ZW g X 0 0 G 54 [(0, .ref o), (1, .int (nI house)), (2, .int (nI H)), (3, .int (nI (house + j1))), (4, .int (nI 5))] [] := by
          intro G hM
          refine z_iconst hX dX4_goes_54 55 rfl zki_0 ?_
          refine z_istore hX dX4_goes_55 57 rfl (Nat.le_of_ble_eq_true rfl) rfl (L' := [(0, .ref o), (1, .int (nI house)), (2, .int (nI H)), (3, .int (nI (house + j1))), (4, .int 0)]) rfl ?_
          have E20 : ∀ G : zHG, zMs g G0 G o (ms_now M (x4_goes_l57 house j1 (x4_goes_l19 house j1 (x4_goes_l9 house (mt_now M) j1) 5) 4)) → ZW g X 0 0 G 92 [(0, .ref o), (1, .int (nI house)), (2, .int (nI H)), (3, .int (nI (house + j1))), (4, .int (nI 4))] [] := by
            intro G hM
            refine z_iconst hX dX4_goes_92 93 rfl zki_0 ?_
            refine z_istore hX dX4_goes_93 95 rfl (Nat.le_of_ble_eq_true rfl) rfl (L' := [(0, .ref o), (1, .int (nI house)), (2, .int (nI H)), (3, .int (nI (house + j1))), (4, .int 0)]) rfl ?_
            have E23 : ∀ G : zHG, zMs g G0 G o (ms_now M (x4_goes_l95 house j1 (x4_goes_l57 house j1 (x4_goes_l19 house j1 (x4_goes_l9 house (mt_now M) j1) 5) 4) 6)) → ZW g X 0 0 G 132 [(0, .ref o), (1, .int (nI house)), (2, .int (nI H)), (3, .int (nI (house + j1))), (4, .int (nI 6))] [] := by
              intro G hM
              refine z_iinc hX dX4_goes_132 135 rfl 3 rfl (w := nI (house + j1 + 1)) (nI_1 (house + j1)) (Nat.le_of_ble_eq_true rfl) rfl (L' := [(0, .ref o), (1, .int (nI house)), (2, .int (nI H)), (3, .int (nI (house + j1 + 1))), (4, .int (nI 6))]) rfl ?_
              refine z_goto hX dX4_goes_135 (tgt := 9) (by decide) ?_
              refine z_sub [0, 1, 2, 3] rfl ?_
              exact ih (j1 + 1) (by omega) _ hM
            have Lp24 : ∀ k j22 : Nat, j22 + k = 6 → ∀ G : zHG, zMs g G0 G o (ms_now M (x4_goes_l95 house j1 (x4_goes_l57 house j1 (x4_goes_l19 house j1 (x4_goes_l9 house (mt_now M) j1) 5) 4) j22)) → ZW g X 0 0 G 95 [(0, .ref o), (1, .int (nI house)), (2, .int (nI H)), (3, .int (nI (house + j1))), (4, .int (nI j22))] [] := by
              intro k
              induction k with
              | zero =>
                intro j22 hj22 G hM
                rw [show j22 = 6 from by omega] at hM ⊢
                refine z_iload hX dX4_goes_95 97 rfl 4 rfl ?_
                refine z_bipush hX dX4_goes_97 99 rfl zkb_6 ?_
                refine z_icmp_geN hX 6 6 (by omega) (by omega) dX4_goes_99 102 rfl (tgt := 132) (by decide) (fun c25 => ?_) (fun c25 => ?_)
                · exact E23 _ hM
                · exact absurd c25 (by omega)
              | succ k ih =>
                intro j22 hj22 G hM
                refine z_iload hX dX4_goes_95 97 rfl 4 rfl ?_
                refine z_bipush hX dX4_goes_97 99 rfl zkb_6 ?_
                refine z_icmp_geN hX j22 6 (by omega) (by omega) dX4_goes_99 102 rfl (tgt := 132) (by decide) (fun c26 => ?_) (fun c26 => ?_)
                · exact absurd c26 (by omega)
                ·
                  refine z_aload_n hX dX4_goes_102 103 rfl (i := 0) rfl 0 rfl ?_
                  refine z_getf hX fX4_7 hM.1.o dX4_goes_103 106 rfl (x := .ref (o + 1)) rfl ?_
                  refine z_bipush hX dX4_goes_106 108 rfl zkb_64 ?_
                  refine z_bipush hX dX4_goes_108 110 rfl zkb_6 ?_
                  refine z_iload_n hX dX4_goes_110 111 rfl (i := 3) rfl 3 rfl ?_
                  refine z_imul hX dX4_goes_111 112 rfl (w := nI (6 * (house + j1))) (pk_mul 6 (house + j1)) ?_
                  refine z_iadd hX dX4_goes_112 113 rfl (w := nI (64 + (6 * (house + j1)))) (nI_add 64 (6 * (house + j1))) ?_
                  refine z_iload hX dX4_goes_113 115 rfl 4 rfl ?_
                  refine z_iadd hX dX4_goes_115 116 rfl (w := nI (64 + (6 * (house + j1)) + j22)) (nI_add (64 + (6 * (house + j1))) j22) ?_
                  refine z_aload_n hX dX4_goes_116 117 rfl (i := 0) rfl 0 rfl ?_
                  refine z_iload_n hX dX4_goes_117 118 rfl (i := 3) rfl 3 rfl ?_
                  refine z_iconst hX dX4_goes_118 119 rfl zki_1 ?_
                  refine z_iadd hX dX4_goes_119 120 rfl (w := nI (house + j1 + 1)) (nI_add (house + j1) 1) ?_
                  refine z_iload hX dX4_goes_120 122 rfl 4 rfl ?_
                  refine z_callVq hX cwX4_181 (w := .int ((x4_goes_l95 house j1 (x4_goes_l57 house j1 (x4_goes_l19 house j1 (x4_goes_l9 house (mt_now M) j1) 5) 4) j22) (64 + (6 * (house + j1 + 1)) + j22))) (met_X4_loanOf hG hM.1 (house + j1 + 1) j22 (by omega) (by omega)) (by simp only [mgs_now]) hM.1.o rfl rfl dX4_goes_122 125 rfl rfl rfl (Nat.le_of_ble_eq_true rfl) (by decide) ⟨Nat.zero_le _, Nat.zero_le _⟩ ?_
                  refine m_ast_now hX hM (64 + (6 * (house + j1)) + j22) (by omega) dX4_goes_125 126 rfl (fun G hM => ?_)
                  have hM : zMs g G0 G o (ms_now M (upd (x4_goes_l95 house j1 (x4_goes_l57 house j1 (x4_goes_l19 house j1 (x4_goes_l9 house (mt_now M) j1) 5) 4) j22) (64 + (6 * (house + j1)) + j22) ((x4_goes_l95 house j1 (x4_goes_l57 house j1 (x4_goes_l19 house j1 (x4_goes_l9 house (mt_now M) j1) 5) 4) j22) (64 + (6 * (house + j1 + 1)) + j22)))) := by simpa only [mgs_now, mm_now] using hM
                  refine z_iinc hX dX4_goes_126 129 rfl 4 rfl (w := nI (j22 + 1)) (nI_1 j22) (Nat.le_of_ble_eq_true rfl) rfl (L' := [(0, .ref o), (1, .int (nI house)), (2, .int (nI H)), (3, .int (nI (house + j1))), (4, .int (nI (j22 + 1)))]) rfl ?_
                  refine z_goto hX dX4_goes_129 (tgt := 95) (by decide) ?_
                  exact ih (j22 + 1) (by omega) _ hM
            have hM : zMs g G0 G o (ms_now M (x4_goes_l95 house j1 (x4_goes_l57 house j1 (x4_goes_l19 house j1 (x4_goes_l9 house (mt_now M) j1) 5) 4) 0)) := by simpa only [x4_goes_l95_0, me_now, mm_now] using hM
            exact Lp24 6 0 (by omega) _ hM
          have Lp21 : ∀ k j19 : Nat, j19 + k = 4 → ∀ G : zHG, zMs g G0 G o (ms_now M (x4_goes_l57 house j1 (x4_goes_l19 house j1 (x4_goes_l9 house (mt_now M) j1) 5) j19)) → ZW g X 0 0 G 57 [(0, .ref o), (1, .int (nI house)), (2, .int (nI H)), (3, .int (nI (house + j1))), (4, .int (nI j19))] [] := by
            intro k
            induction k with
            | zero =>
              intro j19 hj19 G hM
              rw [show j19 = 4 from by omega] at hM ⊢
              refine z_iload hX dX4_goes_57 59 rfl 4 rfl ?_
              refine z_iconst hX dX4_goes_59 60 rfl zki_4 ?_
              refine z_icmp_geN hX 4 4 (by omega) (by omega) dX4_goes_60 63 rfl (tgt := 92) (by decide) (fun c27 => ?_) (fun c27 => ?_)
              · exact E20 _ hM
              · exact absurd c27 (by omega)
            | succ k ih =>
              intro j19 hj19 G hM
              refine z_iload hX dX4_goes_57 59 rfl 4 rfl ?_
              refine z_iconst hX dX4_goes_59 60 rfl zki_4 ?_
              refine z_icmp_geN hX j19 4 (by omega) (by omega) dX4_goes_60 63 rfl (tgt := 92) (by decide) (fun c28 => ?_) (fun c28 => ?_)
              · exact absurd c28 (by omega)
              ·
                refine z_aload_n hX dX4_goes_63 64 rfl (i := 0) rfl 0 rfl ?_
                refine z_getf hX fX4_7 hM.1.o dX4_goes_64 67 rfl (x := .ref (o + 1)) rfl ?_
                refine z_bipush hX dX4_goes_67 69 rfl zkb_40 ?_
                refine z_iconst hX dX4_goes_69 70 rfl zki_4 ?_
                refine z_iload_n hX dX4_goes_70 71 rfl (i := 3) rfl 3 rfl ?_
                refine z_imul hX dX4_goes_71 72 rfl (w := nI (4 * (house + j1))) (pk_mul 4 (house + j1)) ?_
                refine z_iadd hX dX4_goes_72 73 rfl (w := nI (40 + (4 * (house + j1)))) (nI_add 40 (4 * (house + j1))) ?_
                refine z_iload hX dX4_goes_73 75 rfl 4 rfl ?_
                refine z_iadd hX dX4_goes_75 76 rfl (w := nI (40 + (4 * (house + j1)) + j19)) (nI_add (40 + (4 * (house + j1))) j19) ?_
                refine z_aload_n hX dX4_goes_76 77 rfl (i := 0) rfl 0 rfl ?_
                refine z_iload_n hX dX4_goes_77 78 rfl (i := 3) rfl 3 rfl ?_
                refine z_iconst hX dX4_goes_78 79 rfl zki_1 ?_
                refine z_iadd hX dX4_goes_79 80 rfl (w := nI (house + j1 + 1)) (nI_add (house + j1) 1) ?_
                refine z_iload hX dX4_goes_80 82 rfl 4 rfl ?_
                refine z_callVq hX cwX4_72 (w := .int ((x4_goes_l57 house j1 (x4_goes_l19 house j1 (x4_goes_l9 house (mt_now M) j1) 5) j19) (40 + (4 * (house + j1 + 1)) + j19))) (met_X4_holds hG hM.1 (house + j1 + 1) j19 (by omega) (by omega)) (by simp only [mgs_now]) hM.1.o rfl rfl dX4_goes_82 85 rfl rfl rfl (Nat.le_of_ble_eq_true rfl) (by decide) ⟨Nat.zero_le _, Nat.zero_le _⟩ ?_
                refine m_ast_now hX hM (40 + (4 * (house + j1)) + j19) (by omega) dX4_goes_85 86 rfl (fun G hM => ?_)
                have hM : zMs g G0 G o (ms_now M (upd (x4_goes_l57 house j1 (x4_goes_l19 house j1 (x4_goes_l9 house (mt_now M) j1) 5) j19) (40 + (4 * (house + j1)) + j19) ((x4_goes_l57 house j1 (x4_goes_l19 house j1 (x4_goes_l9 house (mt_now M) j1) 5) j19) (40 + (4 * (house + j1 + 1)) + j19)))) := by simpa only [mgs_now, mm_now] using hM
                refine z_iinc hX dX4_goes_86 89 rfl 4 rfl (w := nI (j19 + 1)) (nI_1 j19) (Nat.le_of_ble_eq_true rfl) rfl (L' := [(0, .ref o), (1, .int (nI house)), (2, .int (nI H)), (3, .int (nI (house + j1))), (4, .int (nI (j19 + 1)))]) rfl ?_
                refine z_goto hX dX4_goes_89 (tgt := 57) (by decide) ?_
                exact ih (j19 + 1) (by omega) _ hM
          have hM : zMs g G0 G o (ms_now M (x4_goes_l57 house j1 (x4_goes_l19 house j1 (x4_goes_l9 house (mt_now M) j1) 5) 0)) := by simpa only [x4_goes_l57_0, me_now, mm_now] using hM
          exact Lp21 4 0 (by omega) _ hM
        have Lp18 : ∀ k j16 : Nat, j16 + k = 5 → ∀ G : zHG, zMs g G0 G o (ms_now M (x4_goes_l19 house j1 (x4_goes_l9 house (mt_now M) j1) j16)) → ZW g X 0 0 G 19 [(0, .ref o), (1, .int (nI house)), (2, .int (nI H)), (3, .int (nI (house + j1))), (4, .int (nI j16))] [] := by
          intro k
          induction k with
          | zero =>
            intro j16 hj16 G hM
            rw [show j16 = 5 from by omega] at hM ⊢
            refine z_iload hX dX4_goes_19 21 rfl 4 rfl ?_
            refine z_iconst hX dX4_goes_21 22 rfl zki_5 ?_
            refine z_icmp_geN hX 5 5 (by omega) (by omega) dX4_goes_22 25 rfl (tgt := 54) (by decide) (fun c29 => ?_) (fun c29 => ?_)
            · exact E17 _ hM
            · exact absurd c29 (by omega)
          | succ k ih =>
            intro j16 hj16 G hM
            refine z_iload hX dX4_goes_19 21 rfl 4 rfl ?_
            refine z_iconst hX dX4_goes_21 22 rfl zki_5 ?_
            refine z_icmp_geN hX j16 5 (by omega) (by omega) dX4_goes_22 25 rfl (tgt := 54) (by decide) (fun c30 => ?_) (fun c30 => ?_)
            · exact absurd c30 (by omega)
            ·
              refine z_aload_n hX dX4_goes_25 26 rfl (i := 0) rfl 0 rfl ?_
              refine z_getf hX fX4_7 hM.1.o dX4_goes_26 29 rfl (x := .ref (o + 1)) rfl ?_
              refine z_bipush hX dX4_goes_29 31 rfl zkb_10 ?_
              refine z_iconst hX dX4_goes_31 32 rfl zki_5 ?_
              refine z_iload_n hX dX4_goes_32 33 rfl (i := 3) rfl 3 rfl ?_
              refine z_imul hX dX4_goes_33 34 rfl (w := nI (5 * (house + j1))) (pk_mul 5 (house + j1)) ?_
              refine z_iadd hX dX4_goes_34 35 rfl (w := nI (10 + (5 * (house + j1)))) (nI_add 10 (5 * (house + j1))) ?_
              refine z_iload hX dX4_goes_35 37 rfl 4 rfl ?_
              refine z_iadd hX dX4_goes_37 38 rfl (w := nI (10 + (5 * (house + j1)) + j16)) (nI_add (10 + (5 * (house + j1))) j16) ?_
              refine z_aload_n hX dX4_goes_38 39 rfl (i := 0) rfl 0 rfl ?_
              refine z_iload_n hX dX4_goes_39 40 rfl (i := 3) rfl 3 rfl ?_
              refine z_iconst hX dX4_goes_40 41 rfl zki_1 ?_
              refine z_iadd hX dX4_goes_41 42 rfl (w := nI (house + j1 + 1)) (nI_add (house + j1) 1) ?_
              refine z_iload hX dX4_goes_42 44 rfl 4 rfl ?_
              refine z_callVq hX cwX4_175 (w := .int ((x4_goes_l19 house j1 (x4_goes_l9 house (mt_now M) j1) j16) (10 + (5 * (house + j1 + 1)) + j16))) (met_X4_houseOf hG hM.1 (house + j1 + 1) j16 (by omega) (by omega)) (by simp only [mgs_now]) hM.1.o rfl rfl dX4_goes_44 47 rfl rfl rfl (Nat.le_of_ble_eq_true rfl) (by decide) ⟨Nat.zero_le _, Nat.zero_le _⟩ ?_
              refine m_ast_now hX hM (10 + (5 * (house + j1)) + j16) (by omega) dX4_goes_47 48 rfl (fun G hM => ?_)
              have hM : zMs g G0 G o (ms_now M (upd (x4_goes_l19 house j1 (x4_goes_l9 house (mt_now M) j1) j16) (10 + (5 * (house + j1)) + j16) ((x4_goes_l19 house j1 (x4_goes_l9 house (mt_now M) j1) j16) (10 + (5 * (house + j1 + 1)) + j16)))) := by simpa only [mgs_now, mm_now] using hM
              refine z_iinc hX dX4_goes_48 51 rfl 4 rfl (w := nI (j16 + 1)) (nI_1 j16) (Nat.le_of_ble_eq_true rfl) rfl (L' := [(0, .ref o), (1, .int (nI house)), (2, .int (nI H)), (3, .int (nI (house + j1))), (4, .int (nI (j16 + 1)))]) rfl ?_
              refine z_goto hX dX4_goes_51 (tgt := 19) (by decide) ?_
              exact ih (j16 + 1) (by omega) _ hM
        have hM : zMs g G0 G o (ms_now M (x4_goes_l19 house j1 (x4_goes_l9 house (mt_now M) j1) 0)) := by simpa only [x4_goes_l19_0, me_now, mm_now] using hM
        exact Lp18 5 0 (by omega) _ hM
  have hM : zMs g G0 G o (ms_now M (x4_goes_l9 house (mt_now M) 0)) := by simpa only [x4_goes_l9_0, me_now, mm_now] using hM
  exact Lp3 (H - 1 - house) 0 (by omega) _ hM
