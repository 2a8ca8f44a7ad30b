set_option maxRecDepth 100000
def x1_calm_res_sold : Nat → Int32 := (fun _ => 0)
def x1_calm_res_fallen (fc : Int32) : Int32 := fc
set_option maxHeartbeats 4000000 in
theorem met_X1_calm {g : Zg} (hG : zG g) {G0 : zHG} {q t : Nat} {B : Nat → Nat → Nat} {N tk cp sh pr : Nat → Int32} {fc gn : Int32} (ht : zTo g G0 q t B N tk cp sh pr fc gn)  : ZM g yX1_calm cX1_calm 2 (some (FieldType.object "FireSale$State")) 2 2 6 [.ref t] G0 (fun r G' => ∃ nR sR bR : Nat, zFresh G0 nR ∧ r = some (.ref sR) ∧ (zTo g G' q t B N tk cp sh pr fc gn ∧ zSt g G' (nR, 0) sR bR x1_calm_res_sold (x1_calm_res_fallen fc) ∧ zFrK [] G0 G')) := by
  unfold x1_calm_res_sold x1_calm_res_fallen
  refine ZM_mk hG (by decide) (Nat.le_of_ble_eq_true rfl) ?_
  intro X hX hname hQ
  obtain ⟨G, hGe⟩ : ∃ z, z = G0 := ⟨_, rfl⟩
  have hM : zTo g G q t B N tk cp sh pr fc gn ∧ zFrK [] G0 G := by rw [hGe]; exact ⟨ht, zFrK.rf⟩
  show ZW g X 0 0 G0 0 [(0, .ref t)] []
  rw [← hGe]
  refine z_fresh (fun ns0 hzs0 => ?_)
  have ne_t_s0 : (q, 0) ≠ (ns0, 0) := hzs0.neT hM.1.o
  have fn_s0 : zFresh G0 ns0 := hzs0.of' hM.2 zfm0
  refine z_new hX (fun _ => (ns0, 0)) nwX1_50 dX1_calm_0 3 rfl (by omega) (by omega) (fun s0 has0 _ => ?_)
  have hf : zFrK [] _ (zup G s0 ((ns0, 0), zO 3 [.null, .int 0])) := zup_new has0
  have hw := zup_self G s0 ((ns0, 0), zO 3 [.null, .int 0])
  generalize zup G s0 ((ns0, 0), zO 3 [.null, .int 0]) = G at hf hw ⊢
  have hM : zTo g G q t B N tk cp sh pr fc gn ∧ G s0 = some ((((ns0, 0) : Nat × Nat).1, 512 * ((ns0, 0) : Nat × Nat).2 + 0), zO 3 [.null, .int 0]) ∧ zFrK [] G0 G := ⟨hM.1.kp (hf.kp zni0), hw, hM.2.stepL hf zml0⟩
  refine z_dup hX dX1_calm_3 4 rfl rfl ?_
  refine z_callIN hX cwX1_52 (met_X3_init hG (κ := (ns0, 0)) hM.2.1 (show ¬ 0 = 9 from by decide)) dX1_calm_4 7 rfl rfl rfl (Nat.le_of_ble_eq_true rfl) (by decide) ⟨by omega, by omega⟩ (fun r G hP => ?_)
  obtain ⟨rfl, bs0, hw, hf⟩ := hP
  have hM : zTo g G q t B N tk cp sh pr fc gn ∧ zSt g G (ns0, 0) s0 bs0 (fun _ => 0) 0 ∧ zFrK [] G0 G := ⟨hM.1.kp (hf.kp (zni1 ne_t_s0 zni0)), hw, hM.2.2.stepF hf fn_s0⟩
  show ZW g X 2 6 G 7 [(0, .ref t)] [.ref s0]
  refine z_astore_n hX dX1_calm_7 8 rfl (i := 1) rfl (Nat.le_of_ble_eq_true rfl) rfl (L' := [(0, .ref t), (1, .ref s0)]) rfl ?_
  refine z_aload_n hX dX1_calm_8 9 rfl (i := 1) rfl 1 rfl ?_
  refine z_aload_n hX dX1_calm_9 10 rfl (i := 0) rfl 0 rfl ?_
  refine z_getf hX fX1_118 hM.1.o dX1_calm_10 13 rfl (x := .int fc) rfl ?_
  refine s_put_fallenN hX hM.2.1 (show ¬ 0 = 9 from by decide) fX1_121 dX1_calm_13 16 rfl (fun G hw hf => ?_)
  have hM : zTo g G q t B N tk cp sh pr fc gn ∧ zSt g G (ns0, 0) s0 bs0 (fun _ => 0) fc ∧ zFrK [] G0 G := ⟨hM.1.kp (hf.kp (zni1 ne_t_s0 zni0)), hw, hM.2.2.stepF hf fn_s0⟩
  refine z_aload_n hX dX1_calm_16 17 rfl (i := 1) rfl 1 rfl ?_
  have hM : zTo g G q t B N tk cp sh pr fc gn ∧ zSt g G (ns0, 0) s0 bs0 (fun _ => 0) fc ∧ zFrK [] G0 G := ⟨hM.1, hM.2.1, hM.2.2⟩
  exact z_aret hX hQ (by omega) (by omega) rfl (Or.inl ⟨_, rfl⟩) dX1_calm_17 ⟨_, _, _, fn_s0, rfl, hM⟩
def x1_panic_l10 (N : Nat → Int32) (cp : Nat → Int32) (K : Nat → Nat) (ini : Nat → Int32) (k : Nat) : Nat → Int32 := zfold k (fun j1 cj1 => upd cj1 j1 (if (x1_cap N cp K j1) < (x1_held N j1) then (x1_cap N cp K j1) else (x1_held N j1) : Int32)) ini
theorem x1_panic_l10_0 (N : Nat → Int32) (cp : Nat → Int32) (K : Nat → Nat) (ini : Nat → Int32) : x1_panic_l10 N cp K ini 0 = ini := (zfold_0 _ _).trans (Eq.refl _)
def x1_panic_res_sold (N : Nat → Int32) (cp : Nat → Int32) (A : Nat) (K : Nat → Nat) : Nat → Int32 := x1_panic_l10 N cp K (fun _ => 0) A
def x1_panic_res_fallen (H : Nat) : Int32 := ((1 : Int32) <<< ((nI H) &&& 31)) - 1
set_option maxHeartbeats 4000000 in
theorem met_X1_panic {g : Zg} (hG : zG g) {G0 : zHG} {q t : Nat} {B : Nat → Nat → Nat} {N tk cp sh pr : Nat → Int32} {fc gn : Int32} (ht : zTo g G0 q t B N tk cp sh pr fc gn) {A H : Nat} {K : Nat → Nat} (hN : zWf N A H K)  : ZM g yX1_panic cX1_panic 3 (some (FieldType.object "FireSale$State")) 4 2 6 [.ref t] G0 (fun r G' => ∃ nR sR bR : Nat, zFresh G0 nR ∧ r = some (.ref sR) ∧ (zTo g G' q t B N tk cp sh pr fc gn ∧ zSt g G' (nR, 0) sR bR (x1_panic_res_sold N cp A K) (x1_panic_res_fallen H) ∧ zFrK [] G0 G')) := by
  unfold x1_panic_res_sold x1_panic_res_fallen
  have hN2 := hN.2.1
  have hN4 := hN.2.2.2.1
  refine ZM_mk hG (by decide) (Nat.le_of_ble_eq_true rfl) ?_
  intro X hX hname hQ
  obtain ⟨G, hGe⟩ : ∃ z, z = G0 := ⟨_, rfl⟩
  have hM : zTo g G q t B N tk cp sh pr fc gn ∧ zFrK [] G0 G := by rw [hGe]; exact ⟨ht, zFrK.rf⟩
  show ZW g X 0 0 G0 0 [(0, .ref t)] []
  rw [← hGe]
  refine z_fresh (fun ns0 hzs0 => ?_)
  have ne_t_s0 : (q, 0) ≠ (ns0, 0) := hzs0.neT hM.1.o
  have fn_s0 : zFresh G0 ns0 := hzs0.of' hM.2 zfm0
  refine z_new hX (fun _ => (ns0, 0)) nwX1_50 dX1_panic_0 3 rfl (by omega) (by omega) (fun s0 has0 _ => ?_)
  have hf : zFrK [] _ (zup G s0 ((ns0, 0), zO 3 [.null, .int 0])) := zup_new has0
  have hw := zup_self G s0 ((ns0, 0), zO 3 [.null, .int 0])
  generalize zup G s0 ((ns0, 0), zO 3 [.null, .int 0]) = G at hf hw ⊢
  have hM : zTo g G q t B N tk cp sh pr fc gn ∧ G s0 = some ((((ns0, 0) : Nat × Nat).1, 512 * ((ns0, 0) : Nat × Nat).2 + 0), zO 3 [.null, .int 0]) ∧ zFrK [] G0 G := ⟨hM.1.kp (hf.kp zni0), hw, hM.2.stepL hf zml0⟩
  refine z_dup hX dX1_panic_3 4 rfl rfl ?_
  refine z_callIN hX cwX1_52 (met_X3_init hG (κ := (ns0, 0)) hM.2.1 (show ¬ 0 = 9 from by decide)) dX1_panic_4 7 rfl rfl rfl (Nat.le_of_ble_eq_true rfl) (by decide) ⟨by omega, by omega⟩ (fun r G hP => ?_)
  obtain ⟨rfl, bs0, hw, hf⟩ := hP
  have hM : zTo g G q t B N tk cp sh pr fc gn ∧ zSt g G (ns0, 0) s0 bs0 (fun _ => 0) 0 ∧ zFrK [] G0 G := ⟨hM.1.kp (hf.kp (zni1 ne_t_s0 zni0)), hw, hM.2.2.stepF hf fn_s0⟩
  show ZW g X 2 6 G 7 [(0, .ref t)] [.ref s0]
  refine z_astore_n hX dX1_panic_7 8 rfl (i := 1) rfl (Nat.le_of_ble_eq_true rfl) rfl (L' := [(0, .ref t), (1, .ref s0)]) rfl ?_
  refine z_iconst hX dX1_panic_8 9 rfl zki_0 ?_
  refine z_istore_n hX dX1_panic_9 10 rfl (i := 2) rfl (Nat.le_of_ble_eq_true rfl) rfl (L' := [(0, .ref t), (1, .ref s0), (2, .int 0)]) rfl ?_
  have E2 : ∀ G : zHG, zTo g G q t B N tk cp sh pr fc gn ∧ zSt g G (ns0, 0) s0 bs0 (x1_panic_l10 N cp K (fun _ => 0) A) 0 ∧ zFrK [] G0 G → ZW g X 2 6 G 43 [(0, .ref t), (1, .ref s0), (2, .int (nI A))] [] := by
    intro G hM
    refine z_aload_n hX dX1_panic_43 44 rfl (i := 1) rfl 1 rfl ?_
    refine z_iconst hX dX1_panic_44 45 rfl zki_1 ?_
    refine z_aload_n hX dX1_panic_45 46 rfl (i := 0) rfl 0 rfl ?_
    refine z_getf hX fX1_74 hM.1.o dX1_panic_46 49 rfl (x := .int (nI H)) (congrArg (fun z => some (Value.int z)) hN.2.2.1) ?_
    refine z_ishl hX dX1_panic_49 50 rfl (w := (1 : Int32) <<< ((nI H) &&& 31)) rfl ?_
    refine z_iconst hX dX1_panic_50 51 rfl zki_1 ?_
    refine z_isub hX dX1_panic_51 52 rfl (w := ((1 : Int32) <<< ((nI H) &&& 31)) - 1) rfl ?_
    refine s_put_fallenN hX hM.2.1 (show ¬ 0 = 9 from by decide) fX1_121 dX1_panic_52 55 rfl (fun G hw hf => ?_)
    have hM : zTo g G q t B N tk cp sh pr fc gn ∧ zSt g G (ns0, 0) s0 bs0 (x1_panic_l10 N cp K (fun _ => 0) A) (((1 : Int32) <<< ((nI H) &&& 31)) - 1) ∧ zFrK [] G0 G := ⟨hM.1.kp (hf.kp (zni1 ne_t_s0 zni0)), hw, hM.2.2.stepF hf fn_s0⟩
    refine z_aload_n hX dX1_panic_55 56 rfl (i := 1) rfl 1 rfl ?_
    have hM : zTo g G q t B N tk cp sh pr fc gn ∧ zSt g G (ns0, 0) s0 bs0 (x1_panic_l10 N cp K (fun _ => 0) A) (((1 : Int32) <<< ((nI H) &&& 31)) - 1) ∧ zFrK [] G0 G := ⟨hM.1, hM.2.1, hM.2.2⟩
    exact z_aret hX hQ (by omega) (by omega) rfl (Or.inl ⟨_, rfl⟩) dX1_panic_56 ⟨_, _, _, fn_s0, rfl, hM⟩
  have Lp3 : ∀ k j1 : Nat, j1 + k = A → ∀ G : zHG, zTo g G q t B N tk cp sh pr fc gn ∧ zSt g G (ns0, 0) s0 bs0 (x1_panic_l10 N cp K (fun _ => 0) j1) 0 ∧ zFrK [] G0 G → ZW g X 2 6 G 10 [(0, .ref t), (1, .ref s0), (2, .int (nI j1))] [] := by
    intro k
    induction k with
    | zero =>
      intro j1 hj1 G hM
      rw [show j1 = A from by omega] at hM ⊢
      refine z_iload_n hX dX1_panic_10 11 rfl (i := 2) rfl 2 rfl ?_
      refine z_aload_n hX dX1_panic_11 12 rfl (i := 0) rfl 0 rfl ?_
      refine z_getf hX fX1_70 hM.1.o dX1_panic_12 15 rfl (x := .int (nI A)) (congrArg (fun z => some (Value.int z)) hN.1) ?_
      refine z_icmp_geN hX A A (by omega) (by omega) dX1_panic_15 18 rfl (tgt := 43) (by decide) (fun c4 => ?_) (fun c4 => ?_)
      · exact E2 _ hM
      · exact absurd c4 (by omega)
    | succ k ih =>
      intro j1 hj1 G hM
      refine z_iload_n hX dX1_panic_10 11 rfl (i := 2) rfl 2 rfl ?_
      refine z_aload_n hX dX1_panic_11 12 rfl (i := 0) rfl 0 rfl ?_
      refine z_getf hX fX1_70 hM.1.o dX1_panic_12 15 rfl (x := .int (nI A)) (congrArg (fun z => some (Value.int z)) hN.1) ?_
      refine z_icmp_geN hX j1 A (by omega) (by omega) dX1_panic_15 18 rfl (tgt := 43) (by decide) (fun c5 => ?_) (fun c5 => ?_)
      · exact absurd c5 (by omega)
      ·
        refine z_aload_n hX dX1_panic_18 19 rfl (i := 1) rfl 1 rfl ?_
        refine z_getfN hX fX1_124 hM.2.1.o dX1_panic_19 22 rfl (x := .ref bs0) rfl ?_
        refine z_iload_n hX dX1_panic_22 23 rfl (i := 2) rfl 2 rfl ?_
        refine z_aload_n hX dX1_panic_23 24 rfl (i := 0) rfl 0 rfl ?_
        refine z_iload_n hX dX1_panic_24 25 rfl (i := 2) rfl 2 rfl ?_
        refine z_callVp hX cwX1_91 (w := .int (x1_held N j1)) (met_X1_held hG hM.1 j1 (by omega)) hM.1.o rfl rfl dX1_panic_25 28 rfl rfl rfl (Nat.le_of_ble_eq_true rfl) (by decide) ⟨by omega, by omega⟩ ?_
        refine z_aload_n hX dX1_panic_28 29 rfl (i := 0) rfl 0 rfl ?_
        refine z_iload_n hX dX1_panic_29 30 rfl (i := 2) rfl 2 rfl ?_
        refine z_callVp hX cwX1_127 (w := .int (x1_cap N cp K j1)) (met_X1_cap hG hM.1 hN j1 (by omega)) hM.1.o rfl rfl dX1_panic_30 33 rfl rfl rfl (Nat.le_of_ble_eq_true rfl) (by decide) ⟨by omega, by omega⟩ ?_
        refine z_mmin hX q589 q408 q113 q409 dX1_panic_33 36 rfl (by decide) (Nat.le_of_ble_eq_true rfl) (by omega) (by omega) (w := (if (x1_cap N cp K j1) < (x1_held N j1) then (x1_cap N cp K j1) else (x1_held N j1) : Int32)) (by first | rfl | (split <;> split <;> first | rfl | omega | (exfalso; simp_all))) ?_
        refine s_ast_sold hX hM.2.1 (show ¬ 0 = 9 from by decide) j1 (by omega) dX1_panic_36 37 rfl (fun G hw hf => ?_)
        have hM : zTo g G q t B N tk cp sh pr fc gn ∧ zSt g G (ns0, 0) s0 bs0 (upd (x1_panic_l10 N cp K (fun _ => 0) j1) j1 (if (x1_cap N cp K j1) < (x1_held N j1) then (x1_cap N cp K j1) else (x1_held N j1) : Int32)) 0 ∧ zFrK [] G0 G := ⟨hM.1.kp (hf.kp (zni1 ne_t_s0 zni0)), hw, hM.2.2.stepF hf fn_s0⟩
        refine z_iinc hX dX1_panic_37 40 rfl 2 rfl (w := nI (j1 + 1)) (nI_1 j1) (Nat.le_of_ble_eq_true rfl) rfl (L' := [(0, .ref t), (1, .ref s0), (2, .int (nI (j1 + 1)))]) rfl ?_
        refine z_goto hX dX1_panic_40 (tgt := 10) (by decide) ?_
        exact ih (j1 + 1) (by omega) _ hM
  have hM : zTo g G q t B N tk cp sh pr fc gn ∧ zSt g G (ns0, 0) s0 bs0 (x1_panic_l10 N cp K (fun _ => 0) 0) 0 ∧ zFrK [] G0 G := by simpa only [x1_panic_l10_0] using hM
  exact Lp3 A 0 (by omega) _ hM
