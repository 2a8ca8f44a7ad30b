set_option maxRecDepth 100000
noncomputable def x1_least_gn (N : Nat → Int32) (tk : Nat → Int32) (cp : Nat → Int32) (sh : Nat → Int32) (fc : Int32) (A : Nat) (H : Nat) (K : Nat → Nat) : Int32 := nI (fs_gone N tk cp sh fc A H K (x1_calm_res_sold, (x1_calm_res_fallen fc)) zForever)
noncomputable def x1_least_res_sold (N : Nat → Int32) (tk : Nat → Int32) (cp : Nat → Int32) (sh : Nat → Int32) (fc : Int32) (A : Nat) (H : Nat) (K : Nat → Nat) : Nat → Int32 := fs_ws N tk cp sh fc A H K (x1_calm_res_sold, (x1_calm_res_fallen fc)) (fs_gone N tk cp sh fc A H K (x1_calm_res_sold, (x1_calm_res_fallen fc)) zForever)
noncomputable def x1_least_res_fallen (N : Nat → Int32) (tk : Nat → Int32) (cp : Nat → Int32) (sh : Nat → Int32) (fc : Int32) (A : Nat) (H : Nat) (K : Nat → Nat) : Int32 := fs_wf N tk cp sh fc A H K (x1_calm_res_sold, (x1_calm_res_fallen fc)) (fs_gone N tk cp sh fc A H K (x1_calm_res_sold, (x1_calm_res_fallen fc)) zForever)
set_option maxHeartbeats 4000000 in
theorem met_X1_least {g : Zg} (hG : zG g) {G0 : zHG} {q t : Nat} {B : Nat → Nat → Nat} {N tk cp sh : Nat → Int32} {fc gn : Int32} (ht : zTw g G0 q t B N tk cp sh fc gn) {A H : Nat} {K : Nat → Nat} (hN : zWf N A H K)  : ZM g yX1_least cX1_least 1 (some (FieldType.object "FireSale$State")) 8 5 16 [.ref t] G0 (fun r G' => ∃ nR sR bR : Nat, zFresh G0 nR ∧ r = some (.ref sR) ∧ (zTw g G' q t B N tk cp sh fc (x1_least_gn N tk cp sh fc A H K) ∧ zSt g G' (nR, 0) sR bR (x1_least_res_sold N tk cp sh fc A H K) (x1_least_res_fallen N tk cp sh fc A H K) ∧ zFrK [(q, 0), (q, 1), (q, 2)] G0 G')) := by
  unfold x1_least_gn x1_least_res_sold x1_least_res_fallen
  have hN2 := hN.2.1
  have hN4 := hN.2.2.2.1
  refine ZM_mk hG (by decide) (Nat.le_of_ble_eq_true rfl) ?_
  intro X hX hname hQ
  obtain ⟨G, hGe⟩ : ∃ z, z = G0 := ⟨_, rfl⟩
  have hM : zTw g G q t B N tk cp sh fc gn ∧ zFrK [(q, 0), (q, 1), (q, 2)] G0 G := by rw [hGe]; exact ⟨ht, zFrK.rf⟩
  show ZW g X 0 0 G0 0 [(0, .ref t)] []
  rw [← hGe]
  refine z_aload_n hX dX1_least_0 1 rfl (i := 0) rfl 0 rfl ?_
  refine z_aload_n hX dX1_least_1 2 rfl (i := 0) rfl 0 rfl ?_
  obtain ⟨opr, os1, os2, of1, of2, ob1, ob2, hT9, h19, h29⟩ := id hM.1
  refine z_callV hX cwX1_187 (met_X1_calm hG hT9) hT9.o rfl rfl dX1_least_2 5 rfl rfl rfl (Nat.le_of_ble_eq_true rfl) (by decide) ⟨by omega, by omega⟩ (fun r G hP => ?_)
  obtain ⟨ns2, s2, bs2, hzs2, rfl, hP⟩ := hP
  obtain ⟨fs9, ho9⟩ := hM.1.o
  have ne_t_s2_0 : (q, 0) ≠ (ns2, 0) := hzs2.neT ho9
  have ne_t_s2_1 : (q, 1) ≠ (ns2, 0) := hzs2.neT ho9
  have ne_t_s2_2 : (q, 2) ≠ (ns2, 0) := hzs2.neT ho9
  have nq_t_s2 : q ≠ ns2 := hzs2 _ _ _ ho9
  have fn_s2 : zFresh G0 ns2 := hzs2.of' hM.2 (zfm1 nq_t_s2 (zfm1 nq_t_s2 (zfm1 nq_t_s2 zfm0)))
  have hM : zTw g G q t B N tk cp sh fc gn ∧ zSt g G (ns2, 0) s2 bs2 x1_calm_res_sold (x1_calm_res_fallen fc) ∧ zFrK [(q, 0), (q, 1), (q, 2)] G0 G := ⟨⟨_, os1, os2, of1, of2, ob1, ob2, hP.1, h19.kp (hP.2.2.kp zni0), h29.kp (hP.2.2.kp zni0)⟩, hP.2.1, hM.2.stepL hP.2.2 zml0⟩
  show ZW g X 2 6 G 5 [(0, .ref t)] [.ref s2, .ref t]
  refine z_ldc hX q611 dX1_least_5 7 rfl ?_
  refine z_eqL (L' := [(0, .ref t)]) (st' := [.int (nI zForever), .ref s2, .ref t]) rfl (by rw [big1000000]) ?_
  obtain ⟨fs9, ho9⟩ := hM.1.o
  refine z_callV hX cwX1_191 (met_X1_walk hG hM.1 hM.2.1 hN (Ne.symm ne_t_s2_0) (Ne.symm ne_t_s2_1) (Ne.symm ne_t_s2_2) zForever zFor_lt) ho9 rfl rfl dX1_least_7 10 rfl rfl rfl (Nat.le_of_ble_eq_true rfl) (by decide) ⟨by omega, by omega⟩ (fun r G hP => ?_)
  obtain ⟨ns7, s7, bs7, hzs7, rfl, hP⟩ := hP
  obtain ⟨fs9, ho9⟩ := hM.1.o
  have ne_t_s7_0 : (q, 0) ≠ (ns7, 0) := hzs7.neT ho9
  have ne_t_s7_1 : (q, 1) ≠ (ns7, 0) := hzs7.neT ho9
  have ne_t_s7_2 : (q, 2) ≠ (ns7, 0) := hzs7.neT ho9
  have nq_t_s7 : q ≠ ns7 := hzs7 _ _ _ ho9
  have ne_s2_s7 : (ns2, 0) ≠ (ns7, 0) := hzs7.neS hM.2.1.o
  have fn_s7 : zFresh G0 ns7 := hzs7.of' hM.2.2 (zfm1 nq_t_s7 (zfm1 nq_t_s7 (zfm1 nq_t_s7 zfm0)))
  have hM : zTw g G q t B N tk cp sh fc (nI (fs_gone N tk cp sh fc A H K (x1_calm_res_sold, (x1_calm_res_fallen fc)) zForever)) ∧ zSt g G (ns2, 0) s2 bs2 x1_calm_res_sold (x1_calm_res_fallen fc) ∧ zSt g G (ns7, 0) s7 bs7 (fs_ws N tk cp sh fc A H K (x1_calm_res_sold, (x1_calm_res_fallen fc)) (fs_gone N tk cp sh fc A H K (x1_calm_res_sold, (x1_calm_res_fallen fc)) zForever)) (fs_wf N tk cp sh fc A H K (x1_calm_res_sold, (x1_calm_res_fallen fc)) (fs_gone N tk cp sh fc A H K (x1_calm_res_sold, (x1_calm_res_fallen fc)) zForever)) ∧ zFrK [(q, 0), (q, 1), (q, 2)] G0 G := ⟨hP.1, hP.2.1, hP.2.2.1, hM.2.2.stepL hP.2.2.2 (zml1 (Or.inl List.mem_cons_self) (zml1 (Or.inl (List.mem_cons_of_mem _ List.mem_cons_self)) (zml1 (Or.inl (List.mem_cons_of_mem _ (List.mem_cons_of_mem _ List.mem_cons_self))) zml0)))⟩
  show ZW g X 5 16 G 10 [(0, .ref t)] [.ref s7]
  have hM : zTw g G q t B N tk cp sh fc (nI (fs_gone N tk cp sh fc A H K (x1_calm_res_sold, (x1_calm_res_fallen fc)) zForever)) ∧ zSt g G (ns7, 0) s7 bs7 (fs_ws N tk cp sh fc A H K (x1_calm_res_sold, (x1_calm_res_fallen fc)) (fs_gone N tk cp sh fc A H K (x1_calm_res_sold, (x1_calm_res_fallen fc)) zForever)) (fs_wf N tk cp sh fc A H K (x1_calm_res_sold, (x1_calm_res_fallen fc)) (fs_gone N tk cp sh fc A H K (x1_calm_res_sold, (x1_calm_res_fallen fc)) zForever)) ∧ zFrK [(q, 0), (q, 1), (q, 2)] G0 G := ⟨hM.1, hM.2.2.1, hM.2.2.2⟩
  exact z_aret hX hQ (by omega) (by omega) rfl (Or.inl ⟨_, rfl⟩) dX1_least_10 ⟨_, _, _, fn_s7, rfl, hM⟩
noncomputable def x1_behind_gn (N : Nat → Int32) (tk : Nat → Int32) (cp : Nat → Int32) (sh : Nat → Int32) (fc : Int32) (A : Nat) (H : Nat) (K : Nat → Nat) (k : Nat) : Int32 := nI (fs_gone N tk cp sh fc A H K (x1_calm_res_sold, (x1_calm_res_fallen fc)) k)
noncomputable def x1_behind_res_sold (N : Nat → Int32) (tk : Nat → Int32) (cp : Nat → Int32) (sh : Nat → Int32) (fc : Int32) (A : Nat) (H : Nat) (K : Nat → Nat) (k : Nat) : Nat → Int32 := fs_ws N tk cp sh fc A H K (x1_calm_res_sold, (x1_calm_res_fallen fc)) (fs_gone N tk cp sh fc A H K (x1_calm_res_sold, (x1_calm_res_fallen fc)) k)
noncomputable def x1_behind_res_fallen (N : Nat → Int32) (tk : Nat → Int32) (cp : Nat → Int32) (sh : Nat → Int32) (fc : Int32) (A : Nat) (H : Nat) (K : Nat → Nat) (k : Nat) : Int32 := fs_wf N tk cp sh fc A H K (x1_calm_res_sold, (x1_calm_res_fallen fc)) (fs_gone N tk cp sh fc A H K (x1_calm_res_sold, (x1_calm_res_fallen fc)) k)
set_option maxHeartbeats 4000000 in
theorem met_X1_behind {g : Zg} (hG : zG g) {G0 : zHG} {q t : Nat} {B : Nat → Nat → Nat} {N tk cp sh : Nat → Int32} {fc gn : Int32} (ht : zTw g G0 q t B N tk cp sh fc gn) {A H : Nat} {K : Nat → Nat} (hN : zWf N A H K) (k : Nat) (h_k : k < 1000001)  : ZM g yX1_behind cX1_behind 2 (some (FieldType.object "FireSale$State")) 8 5 16 [.ref t, .int (nI k)] G0 (fun r G' => ∃ nR sR bR : Nat, zFresh G0 nR ∧ r = some (.ref sR) ∧ (zTw g G' q t B N tk cp sh fc (x1_behind_gn N tk cp sh fc A H K k) ∧ zSt g G' (nR, 0) sR bR (x1_behind_res_sold N tk cp sh fc A H K k) (x1_behind_res_fallen N tk cp sh fc A H K k) ∧ zFrK [(q, 0), (q, 1), (q, 2)] G0 G')) := by
  unfold x1_behind_gn x1_behind_res_sold x1_behind_res_fallen
  have hN2 := hN.2.1
  have hN4 := hN.2.2.2.1
  refine ZM_mk hG (by decide) (Nat.le_of_ble_eq_true rfl) ?_
  intro X hX hname hQ
  obtain ⟨G, hGe⟩ : ∃ z, z = G0 := ⟨_, rfl⟩
  have hM : zTw g G q t B N tk cp sh fc gn ∧ zFrK [(q, 0), (q, 1), (q, 2)] G0 G := by rw [hGe]; exact ⟨ht, zFrK.rf⟩
  show ZW g X 0 0 G0 0 [(0, .ref t), (1, .int (nI k))] []
  rw [← hGe]
  refine z_aload_n hX dX1_behind_0 1 rfl (i := 0) rfl 0 rfl ?_
  refine z_aload_n hX dX1_behind_1 2 rfl (i := 0) rfl 0 rfl ?_
  obtain ⟨opr, os1, os2, of1, of2, ob1, ob2, hT9, h19, h29⟩ := id hM.1
  refine z_callV hX cwX1_187 (met_X1_calm hG hT9) hT9.o rfl rfl dX1_behind_2 5 rfl rfl rfl (Nat.le_of_ble_eq_true rfl) (by decide) ⟨by omega, by omega⟩ (fun r G hP => ?_)
  obtain ⟨ns2, s2, bs2, hzs2, rfl, hP⟩ := hP
  obtain ⟨fs9, ho9⟩ := hM.1.o
  have ne_t_s2_0 : (q, 0) ≠ (ns2, 0) := hzs2.neT ho9
  have ne_t_s2_1 : (q, 1) ≠ (ns2, 0) := hzs2.neT ho9
  have ne_t_s2_2 : (q, 2) ≠ (ns2, 0) := hzs2.neT ho9
  have nq_t_s2 : q ≠ ns2 := hzs2 _ _ _ ho9
  have fn_s2 : zFresh G0 ns2 := hzs2.of' hM.2 (zfm1 nq_t_s2 (zfm1 nq_t_s2 (zfm1 nq_t_s2 zfm0)))
  have hM : zTw g G q t B N tk cp sh fc gn ∧ zSt g G (ns2, 0) s2 bs2 x1_calm_res_sold (x1_calm_res_fallen fc) ∧ zFrK [(q, 0), (q, 1), (q, 2)] G0 G := ⟨⟨_, os1, os2, of1, of2, ob1, ob2, hP.1, h19.kp (hP.2.2.kp zni0), h29.kp (hP.2.2.kp zni0)⟩, hP.2.1, hM.2.stepL hP.2.2 zml0⟩
  show ZW g X 2 6 G 5 [(0, .ref t), (1, .int (nI k))] [.ref s2, .ref t]
  refine z_iload_n hX dX1_behind_5 6 rfl (i := 1) rfl 1 rfl ?_
  obtain ⟨fs9, ho9⟩ := hM.1.o
  refine z_callV hX cwX1_191 (met_X1_walk hG hM.1 hM.2.1 hN (Ne.symm ne_t_s2_0) (Ne.symm ne_t_s2_1) (Ne.symm ne_t_s2_2) k (by omega)) ho9 rfl rfl dX1_behind_6 9 rfl rfl rfl (Nat.le_of_ble_eq_true rfl) (by decide) ⟨by omega, by omega⟩ (fun r G hP => ?_)
  obtain ⟨ns6, s6, bs6, hzs6, rfl, hP⟩ := hP
  obtain ⟨fs9, ho9⟩ := hM.1.o
  have ne_t_s6_0 : (q, 0) ≠ (ns6, 0) := hzs6.neT ho9
  have ne_t_s6_1 : (q, 1) ≠ (ns6, 0) := hzs6.neT ho9
  have ne_t_s6_2 : (q, 2) ≠ (ns6, 0) := hzs6.neT ho9
  have nq_t_s6 : q ≠ ns6 := hzs6 _ _ _ ho9
  have ne_s2_s6 : (ns2, 0) ≠ (ns6, 0) := hzs6.neS hM.2.1.o
  have fn_s6 : zFresh G0 ns6 := hzs6.of' hM.2.2 (zfm1 nq_t_s6 (zfm1 nq_t_s6 (zfm1 nq_t_s6 zfm0)))
  have hM : zTw g G q t B N tk cp sh fc (nI (fs_gone N tk cp sh fc A H K (x1_calm_res_sold, (x1_calm_res_fallen fc)) k)) ∧ zSt g G (ns2, 0) s2 bs2 x1_calm_res_sold (x1_calm_res_fallen fc) ∧ zSt g G (ns6, 0) s6 bs6 (fs_ws N tk cp sh fc A H K (x1_calm_res_sold, (x1_calm_res_fallen fc)) (fs_gone N tk cp sh fc A H K (x1_calm_res_sold, (x1_calm_res_fallen fc)) k)) (fs_wf N tk cp sh fc A H K (x1_calm_res_sold, (x1_calm_res_fallen fc)) (fs_gone N tk cp sh fc A H K (x1_calm_res_sold, (x1_calm_res_fallen fc)) k)) ∧ zFrK [(q, 0), (q, 1), (q, 2)] G0 G := ⟨hP.1, hP.2.1, hP.2.2.1, hM.2.2.stepL hP.2.2.2 (zml1 (Or.inl List.mem_cons_self) (zml1 (Or.inl (List.mem_cons_of_mem _ List.mem_cons_self)) (zml1 (Or.inl (List.mem_cons_of_mem _ (List.mem_cons_of_mem _ List.mem_cons_self))) zml0)))⟩
  show ZW g X 5 16 G 9 [(0, .ref t), (1, .int (nI k))] [.ref s6]
  have hM : zTw g G q t B N tk cp sh fc (nI (fs_gone N tk cp sh fc A H K (x1_calm_res_sold, (x1_calm_res_fallen fc)) k)) ∧ zSt g G (ns6, 0) s6 bs6 (fs_ws N tk cp sh fc A H K (x1_calm_res_sold, (x1_calm_res_fallen fc)) (fs_gone N tk cp sh fc A H K (x1_calm_res_sold, (x1_calm_res_fallen fc)) k)) (fs_wf N tk cp sh fc A H K (x1_calm_res_sold, (x1_calm_res_fallen fc)) (fs_gone N tk cp sh fc A H K (x1_calm_res_sold, (x1_calm_res_fallen fc)) k)) ∧ zFrK [(q, 0), (q, 1), (q, 2)] G0 G := ⟨hM.1, hM.2.2.1, hM.2.2.2⟩
  exact z_aret hX hQ (by omega) (by omega) rfl (Or.inl ⟨_, rfl⟩) dX1_behind_9 ⟨_, _, _, fn_s6, rfl, hM⟩
noncomputable def x1_behind_2_gn (N : Nat → Int32) (tk : Nat → Int32) (cp : Nat → Int32) (sh : Nat → Int32) (fc : Int32) (s_sold : Nat → Int32) (s_fallen : Int32) (A : Nat) (H : Nat) (K : Nat → Nat) (k : Nat) : Int32 := nI (fs_gone N tk cp sh fc A H K (s_sold, s_fallen) k)
noncomputable def x1_behind_2_res_sold (N : Nat → Int32) (tk : Nat → Int32) (cp : Nat → Int32) (sh : Nat → Int32) (fc : Int32) (s_sold : Nat → Int32) (s_fallen : Int32) (A : Nat) (H : Nat) (K : Nat → Nat) (k : Nat) : Nat → Int32 := fs_ws N tk cp sh fc A H K (s_sold, s_fallen) (fs_gone N tk cp sh fc A H K (s_sold, s_fallen) k)
noncomputable def x1_behind_2_res_fallen (N : Nat → Int32) (tk : Nat → Int32) (cp : Nat → Int32) (sh : Nat → Int32) (fc : Int32) (s_sold : Nat → Int32) (s_fallen : Int32) (A : Nat) (H : Nat) (K : Nat → Nat) (k : Nat) : Int32 := fs_wf N tk cp sh fc A H K (s_sold, s_fallen) (fs_gone N tk cp sh fc A H K (s_sold, s_fallen) k)
set_option maxHeartbeats 4000000 in
theorem met_X1_behind_2 {g : Zg} (hG : zG g) {G0 : zHG} {q t : Nat} {B : Nat → Nat → Nat} {N tk cp sh : Nat → Int32} {fc gn : Int32} {ks : Nat × Nat} {s : Nat} {bs : Nat} {s_sold : Nat → Int32} {s_fallen : Int32} (ht : zTw g G0 q t B N tk cp sh fc gn) (hs : zSt g G0 ks s bs s_sold s_fallen) {A H : Nat} {K : Nat → Nat} (hN : zWf N A H K) (ne_t_s_00 : (q, 0) ≠ ks) (ne_t_s_10 : (q, 1) ≠ ks) (ne_t_s_20 : (q, 2) ≠ ks) (k : Nat) (h_k : k < 1000001)  : ZM g yX1_behind_2 cX1_behind_2 3 (some (FieldType.object "FireSale$State")) 8 3 10 [.ref t, .ref s, .int (nI k)] G0 (fun r G' => ∃ nR sR bR : Nat, zFresh G0 nR ∧ r = some (.ref sR) ∧ (zTw g G' q t B N tk cp sh fc (x1_behind_2_gn N tk cp sh fc s_sold s_fallen A H K k) ∧ zSt g G' ks s bs s_sold s_fallen ∧ zSt g G' (nR, 0) sR bR (x1_behind_2_res_sold N tk cp sh fc s_sold s_fallen A H K k) (x1_behind_2_res_fallen N tk cp sh fc s_sold s_fallen A H K k) ∧ zFrK [(q, 0), (q, 1), (q, 2)] G0 G')) := by
  unfold x1_behind_2_gn x1_behind_2_res_sold x1_behind_2_res_fallen
  have hN2 := hN.2.1
  have hN4 := hN.2.2.2.1
  refine ZM_mk hG (by decide) (Nat.le_of_ble_eq_true rfl) ?_
  intro X hX hname hQ
  obtain ⟨G, hGe⟩ : ∃ z, z = G0 := ⟨_, rfl⟩
  have hM : zTw g G q t B N tk cp sh fc gn ∧ zSt g G ks s bs s_sold s_fallen ∧ zFrK [(q, 0), (q, 1), (q, 2)] G0 G := by rw [hGe]; exact ⟨ht, hs, zFrK.rf⟩
  show ZW g X 0 0 G0 0 [(0, .ref t), (1, .ref s), (2, .int (nI k))] []
  rw [← hGe]
  refine z_aload_n hX dX1_behind_2_0 1 rfl (i := 0) rfl 0 rfl ?_
  refine z_aload_n hX dX1_behind_2_1 2 rfl (i := 1) rfl 1 rfl ?_
  refine z_iload_n hX dX1_behind_2_2 3 rfl (i := 2) rfl 2 rfl ?_
  obtain ⟨fs9, ho9⟩ := hM.1.o
  refine z_callV hX cwX1_191 (met_X1_walk hG hM.1 hM.2.1 hN (Ne.symm ne_t_s_00) (Ne.symm ne_t_s_10) (Ne.symm ne_t_s_20) k (by omega)) ho9 rfl rfl dX1_behind_2_3 6 rfl rfl rfl (Nat.le_of_ble_eq_true rfl) (by decide) ⟨by omega, by omega⟩ (fun r G hP => ?_)
  obtain ⟨ns3, s3, bs3, hzs3, rfl, hP⟩ := hP
  obtain ⟨fs9, ho9⟩ := hM.1.o
  have ne_t_s3_0 : (q, 0) ≠ (ns3, 0) := hzs3.neT ho9
  have ne_t_s3_1 : (q, 1) ≠ (ns3, 0) := hzs3.neT ho9
  have ne_t_s3_2 : (q, 2) ≠ (ns3, 0) := hzs3.neT ho9
  have nq_t_s3 : q ≠ ns3 := hzs3 _ _ _ ho9
  have ne_s_s3 : ks ≠ (ns3, 0) := hzs3.neS hM.2.1.o
  have fn_s3 : zFresh G0 ns3 := hzs3.of' hM.2.2 (zfm1 nq_t_s3 (zfm1 nq_t_s3 (zfm1 nq_t_s3 zfm0)))
  have hM : zTw g G q t B N tk cp sh fc (nI (fs_gone N tk cp sh fc A H K (s_sold, s_fallen) k)) ∧ zSt g G ks s bs s_sold s_fallen ∧ zSt g G (ns3, 0) s3 bs3 (fs_ws N tk cp sh fc A H K (s_sold, s_fallen) (fs_gone N tk cp sh fc A H K (s_sold, s_fallen) k)) (fs_wf N tk cp sh fc A H K (s_sold, s_fallen) (fs_gone N tk cp sh fc A H K (s_sold, s_fallen) k)) ∧ zFrK [(q, 0), (q, 1), (q, 2)] G0 G := ⟨hP.1, hP.2.1, hP.2.2.1, hM.2.2.stepL hP.2.2.2 (zml1 (Or.inl List.mem_cons_self) (zml1 (Or.inl (List.mem_cons_of_mem _ List.mem_cons_self)) (zml1 (Or.inl (List.mem_cons_of_mem _ (List.mem_cons_of_mem _ List.mem_cons_self))) zml0)))⟩
  show ZW g X 3 10 G 6 [(0, .ref t), (1, .ref s), (2, .int (nI k))] [.ref s3]
  have hM : zTw g G q t B N tk cp sh fc (nI (fs_gone N tk cp sh fc A H K (s_sold, s_fallen) k)) ∧ zSt g G ks s bs s_sold s_fallen ∧ zSt g G (ns3, 0) s3 bs3 (fs_ws N tk cp sh fc A H K (s_sold, s_fallen) (fs_gone N tk cp sh fc A H K (s_sold, s_fallen) k)) (fs_wf N tk cp sh fc A H K (s_sold, s_fallen) (fs_gone N tk cp sh fc A H K (s_sold, s_fallen) k)) ∧ zFrK [(q, 0), (q, 1), (q, 2)] G0 G := ⟨hM.1, hM.2.1, hM.2.2.1, hM.2.2.2⟩
  exact z_aret hX hQ (by omega) (by omega) rfl (Or.inl ⟨_, rfl⟩) dX1_behind_2_6 ⟨_, _, _, fn_s3, rfl, hM⟩
noncomputable def x1_rounds_gn (N : Nat → Int32) (tk : Nat → Int32) (cp : Nat → Int32) (sh : Nat → Int32) (fc : Int32) (s_sold : Nat → Int32) (s_fallen : Int32) (A : Nat) (H : Nat) (K : Nat → Nat) : Int32 := nI (fs_gone N tk cp sh fc A H K (s_sold, s_fallen) zForever)
set_option maxHeartbeats 4000000 in
theorem met_X1_rounds {g : Zg} (hG : zG g) {G0 : zHG} {q t : Nat} {B : Nat → Nat → Nat} {N tk cp sh : Nat → Int32} {fc gn : Int32} {ks : Nat × Nat} {s : Nat} {bs : Nat} {s_sold : Nat → Int32} {s_fallen : Int32} (ht : zTw g G0 q t B N tk cp sh fc gn) (hs : zSt g G0 ks s bs s_sold s_fallen) {A H : Nat} {K : Nat → Nat} (hN : zWf N A H K) (ne_t_s_00 : (q, 0) ≠ ks) (ne_t_s_10 : (q, 1) ≠ ks) (ne_t_s_20 : (q, 2) ≠ ks)  : ZM g yX1_rounds cX1_rounds 3 (some FieldType.int) 8 3 10 [.ref t, .ref s] G0 (fun r G' => r = some (.int (nI (fs_gone N tk cp sh fc A H K (s_sold, s_fallen) zForever))) ∧ (zTw g G' q t B N tk cp sh fc (x1_rounds_gn N tk cp sh fc s_sold s_fallen A H K) ∧ zSt g G' ks s bs s_sold s_fallen ∧ zFrK [(q, 0), (q, 1), (q, 2)] G0 G')) := by
  unfold x1_rounds_gn
  have hN2 := hN.2.1
  have hN4 := hN.2.2.2.1
  refine ZM_mk hG (by decide) (Nat.le_of_ble_eq_true rfl) ?_
  intro X hX hname hQ
  obtain ⟨G, hGe⟩ : ∃ z, z = G0 := ⟨_, rfl⟩
  have hM : zTw g G q t B N tk cp sh fc gn ∧ zSt g G ks s bs s_sold s_fallen ∧ zFrK [(q, 0), (q, 1), (q, 2)] G0 G := by rw [hGe]; exact ⟨ht, hs, zFrK.rf⟩
  show ZW g X 0 0 G0 0 [(0, .ref t), (1, .ref s)] []
  rw [← hGe]
  refine z_aload_n hX dX1_rounds_0 1 rfl (i := 0) rfl 0 rfl ?_
  refine z_aload_n hX dX1_rounds_1 2 rfl (i := 1) rfl 1 rfl ?_
  refine z_ldc hX q611 dX1_rounds_2 4 rfl ?_
  refine z_eqL (L' := [(0, .ref t), (1, .ref s)]) (st' := [.int (nI zForever), .ref s, .ref t]) rfl (by rw [big1000000]) ?_
  obtain ⟨fs9, ho9⟩ := hM.1.o
  refine z_callV hX cwX1_191 (met_X1_walk hG hM.1 hM.2.1 hN (Ne.symm ne_t_s_00) (Ne.symm ne_t_s_10) (Ne.symm ne_t_s_20) zForever zFor_lt) ho9 rfl rfl dX1_rounds_4 7 rfl rfl rfl (Nat.le_of_ble_eq_true rfl) (by decide) ⟨by omega, by omega⟩ (fun r G hP => ?_)
  obtain ⟨ns4, s4, bs4, hzs4, rfl, hP⟩ := hP
  obtain ⟨fs9, ho9⟩ := hM.1.o
  have ne_t_s4_0 : (q, 0) ≠ (ns4, 0) := hzs4.neT ho9
  have ne_t_s4_1 : (q, 1) ≠ (ns4, 0) := hzs4.neT ho9
  have ne_t_s4_2 : (q, 2) ≠ (ns4, 0) := hzs4.neT ho9
  have nq_t_s4 : q ≠ ns4 := hzs4 _ _ _ ho9
  have ne_s_s4 : ks ≠ (ns4, 0) := hzs4.neS hM.2.1.o
  have fn_s4 : zFresh G0 ns4 := hzs4.of' hM.2.2 (zfm1 nq_t_s4 (zfm1 nq_t_s4 (zfm1 nq_t_s4 zfm0)))
  have hM : zTw g G q t B N tk cp sh fc (nI (fs_gone N tk cp sh fc A H K (s_sold, s_fallen) zForever)) ∧ zSt g G ks s bs s_sold s_fallen ∧ zSt g G (ns4, 0) s4 bs4 (fs_ws N tk cp sh fc A H K (s_sold, s_fallen) (fs_gone N tk cp sh fc A H K (s_sold, s_fallen) zForever)) (fs_wf N tk cp sh fc A H K (s_sold, s_fallen) (fs_gone N tk cp sh fc A H K (s_sold, s_fallen) zForever)) ∧ zFrK [(q, 0), (q, 1), (q, 2)] G0 G := ⟨hP.1, hP.2.1, hP.2.2.1, hM.2.2.stepL hP.2.2.2 (zml1 (Or.inl List.mem_cons_self) (zml1 (Or.inl (List.mem_cons_of_mem _ List.mem_cons_self)) (zml1 (Or.inl (List.mem_cons_of_mem _ (List.mem_cons_of_mem _ List.mem_cons_self))) zml0)))⟩
  show ZW g X 3 10 G 7 [(0, .ref t), (1, .ref s)] [.ref s4]
  refine z_astore_n hX dX1_rounds_7 8 rfl (i := 2) rfl (Nat.le_of_ble_eq_true rfl) rfl (L' := [(0, .ref t), (1, .ref s), (2, .ref s4)]) rfl ?_
  refine z_aload_n hX dX1_rounds_8 9 rfl (i := 0) rfl 0 rfl ?_
  obtain ⟨opr, os1, os2, of1, of2, ob1, ob2, hT9, h19, h29⟩ := id hM.1
  refine z_getf hX fX1_173 hT9.o dX1_rounds_9 12 rfl (x := .int (nI (fs_gone N tk cp sh fc A H K (s_sold, s_fallen) zForever))) rfl ?_
  have hM : zTw g G q t B N tk cp sh fc (nI (fs_gone N tk cp sh fc A H K (s_sold, s_fallen) zForever)) ∧ zSt g G ks s bs s_sold s_fallen ∧ zFrK [(q, 0), (q, 1), (q, 2)] G0 G := ⟨hM.1, hM.2.1, hM.2.2.2⟩
  exact z_iret hX hQ (by omega) (by omega) rfl dX1_rounds_12 ⟨rfl, hM⟩
noncomputable def x1_state_gn (N : Nat → Int32) (tk : Nat → Int32) (cp : Nat → Int32) (sh : Nat → Int32) (fc : Int32) (gn : Int32) (A : Nat) (H : Nat) (K : Nat → Nat) (which : Int32) : Int32 := if which = 0 then gn else if which = 1 then x1_least_gn N tk cp sh fc A H K else if which = 2 then nI (fs_gone N tk cp sh fc A H K ((x1_panic_res_sold N cp A K), (x1_panic_res_fallen H)) zForever) else gn
noncomputable def x1_state_res_sold (N : Nat → Int32) (tk : Nat → Int32) (cp : Nat → Int32) (sh : Nat → Int32) (fc : Int32) (A : Nat) (H : Nat) (K : Nat → Nat) (which : Int32) : Nat → Int32 := if which = 0 then x1_calm_res_sold else if which = 1 then x1_least_res_sold N tk cp sh fc A H K else if which = 2 then fs_ws N tk cp sh fc A H K ((x1_panic_res_sold N cp A K), (x1_panic_res_fallen H)) (fs_gone N tk cp sh fc A H K ((x1_panic_res_sold N cp A K), (x1_panic_res_fallen H)) zForever) else x1_panic_res_sold N cp A K
noncomputable def x1_state_res_fallen (N : Nat → Int32) (tk : Nat → Int32) (cp : Nat → Int32) (sh : Nat → Int32) (fc : Int32) (A : Nat) (H : Nat) (K : Nat → Nat) (which : Int32) : Int32 := if which = 0 then x1_calm_res_fallen fc else if which = 1 then x1_least_res_fallen N tk cp sh fc A H K else if which = 2 then fs_wf N tk cp sh fc A H K ((x1_panic_res_sold N cp A K), (x1_panic_res_fallen H)) (fs_gone N tk cp sh fc A H K ((x1_panic_res_sold N cp A K), (x1_panic_res_fallen H)) zForever) else x1_panic_res_fallen H
set_option maxHeartbeats 4000000 in
theorem met_X1_state {g : Zg} (hG : zG g) {G0 : zHG} {q t : Nat} {B : Nat → Nat → Nat} {N tk cp sh : Nat → Int32} {fc gn : Int32} (ht : zTw g G0 q t B N tk cp sh fc gn) {A H : Nat} {K : Nat → Nat} (hN : zWf N A H K) (which : Int32)  : ZM g yX1_state cX1_state 2 (some (FieldType.object "FireSale$State")) 9 5 16 [.ref t, .int which] G0 (fun r G' => ∃ nR sR bR : Nat, zFresh G0 nR ∧ r = some (.ref sR) ∧ (zTw g G' q t B N tk cp sh fc (x1_state_gn N tk cp sh fc gn A H K which) ∧ zSt g G' (nR, 0) sR bR (x1_state_res_sold N tk cp sh fc A H K which) (x1_state_res_fallen N tk cp sh fc A H K which) ∧ zFrK [(q, 0), (q, 1), (q, 2)] G0 G')) := by
  unfold x1_state_gn x1_state_res_sold x1_state_res_fallen
  have hN2 := hN.2.1
  have hN4 := hN.2.2.2.1
  refine ZM_mk hG (by decide) (Nat.le_of_ble_eq_true rfl) ?_
  intro X hX hname hQ
  obtain ⟨G, hGe⟩ : ∃ z, z = G0 := ⟨_, rfl⟩
  have hM : zTw g G q t B N tk cp sh fc gn ∧ zFrK [(q, 0), (q, 1), (q, 2)] G0 G := by rw [hGe]; exact ⟨ht, zFrK.rf⟩
  show ZW g X 0 0 G0 0 [(0, .ref t), (1, .int which)] []
  rw [← hGe]
  refine z_iload_n hX dX1_state_0 1 rfl (i := 1) rfl 1 rfl ?_
  by_cases s1 : which = 0
  ·
    refine z_eqL (L' := [(0, .ref t), (1, .int 0)]) (st' := [.int 0]) (by rw [s1]) (by rw [s1]) ?_
    refine z_tableIn hX dX1_state_1 (off := 27) (tgt := 28) (by decide) (by decide) (by decide) (by decide) ?_
    refine z_aload_n hX dX1_state_28 29 rfl (i := 0) rfl 0 rfl ?_
    obtain ⟨opr, os1, os2, of1, of2, ob1, ob2, hT9, h19, h29⟩ := id hM.1
    refine z_callV hX cwX1_187 (met_X1_calm hG hT9) hT9.o rfl rfl dX1_state_29 32 rfl rfl rfl (Nat.le_of_ble_eq_true rfl) (by decide) ⟨by omega, by omega⟩ (fun r G hP => ?_)
    obtain ⟨ns29, s29, bs29, hzs29, rfl, hP⟩ := hP
    obtain ⟨fs9, ho9⟩ := hM.1.o
    have ne_t_s29_0 : (q, 0) ≠ (ns29, 0) := hzs29.neT ho9
    have ne_t_s29_1 : (q, 1) ≠ (ns29, 0) := hzs29.neT ho9
    have ne_t_s29_2 : (q, 2) ≠ (ns29, 0) := hzs29.neT ho9
    have nq_t_s29 : q ≠ ns29 := hzs29 _ _ _ ho9
    have fn_s29 : zFresh G0 ns29 := hzs29.of' hM.2 (zfm1 nq_t_s29 (zfm1 nq_t_s29 (zfm1 nq_t_s29 zfm0)))
    have hM : zTw g G q t B N tk cp sh fc gn ∧ zSt g G (ns29, 0) s29 bs29 x1_calm_res_sold (x1_calm_res_fallen fc) ∧ zFrK [(q, 0), (q, 1), (q, 2)] G0 G := ⟨⟨_, os1, os2, of1, of2, ob1, ob2, hP.1, h19.kp (hP.2.2.kp zni0), h29.kp (hP.2.2.kp zni0)⟩, hP.2.1, hM.2.stepL hP.2.2 zml0⟩
    show ZW g X 2 6 G 32 [(0, .ref t), (1, .int 0)] [.ref s29]
    have hM : zTw g G q t B N tk cp sh fc gn ∧ zSt g G (ns29, 0) s29 bs29 x1_calm_res_sold (x1_calm_res_fallen fc) ∧ zFrK [(q, 0), (q, 1), (q, 2)] G0 G := ⟨hM.1, hM.2.1, hM.2.2⟩
    exact z_aret hX hQ (by omega) (by omega) rfl (Or.inl ⟨_, rfl⟩) dX1_state_32 ⟨_, _, _, fn_s29, rfl, (by first | (simpa only [if_pos s1] using hM) | ((try simp only [if_pos s1]); exact hM))⟩
  by_cases s2 : which = 1
  ·
    refine z_eqL (L' := [(0, .ref t), (1, .int 1)]) (st' := [.int 1]) (by rw [s2]) (by rw [s2]) ?_
    refine z_tableIn hX dX1_state_1 (off := 32) (tgt := 33) (by decide) (by decide) (by decide) (by decide) ?_
    refine z_aload_n hX dX1_state_33 34 rfl (i := 0) rfl 0 rfl ?_
    obtain ⟨fs9, ho9⟩ := hM.1.o
    refine z_callV hX cwX1_195 (met_X1_least hG hM.1 hN) ho9 rfl rfl dX1_state_34 37 rfl rfl rfl (Nat.le_of_ble_eq_true rfl) (by decide) ⟨by omega, by omega⟩ (fun r G hP => ?_)
    obtain ⟨ns34, s34, bs34, hzs34, rfl, hP⟩ := hP
    obtain ⟨fs9, ho9⟩ := hM.1.o
    have ne_t_s34_0 : (q, 0) ≠ (ns34, 0) := hzs34.neT ho9
    have ne_t_s34_1 : (q, 1) ≠ (ns34, 0) := hzs34.neT ho9
    have ne_t_s34_2 : (q, 2) ≠ (ns34, 0) := hzs34.neT ho9
    have nq_t_s34 : q ≠ ns34 := hzs34 _ _ _ ho9
    have fn_s34 : zFresh G0 ns34 := hzs34.of' hM.2 (zfm1 nq_t_s34 (zfm1 nq_t_s34 (zfm1 nq_t_s34 zfm0)))
    have hM : zTw g G q t B N tk cp sh fc (x1_least_gn N tk cp sh fc A H K) ∧ zSt g G (ns34, 0) s34 bs34 (x1_least_res_sold N tk cp sh fc A H K) (x1_least_res_fallen N tk cp sh fc A H K) ∧ zFrK [(q, 0), (q, 1), (q, 2)] G0 G := ⟨hP.1, hP.2.1, hM.2.stepL hP.2.2 (zml1 (Or.inl List.mem_cons_self) (zml1 (Or.inl (List.mem_cons_of_mem _ List.mem_cons_self)) (zml1 (Or.inl (List.mem_cons_of_mem _ (List.mem_cons_of_mem _ List.mem_cons_self))) zml0)))⟩
    show ZW g X 5 16 G 37 [(0, .ref t), (1, .int 1)] [.ref s34]
    have hM : zTw g G q t B N tk cp sh fc (x1_least_gn N tk cp sh fc A H K) ∧ zSt g G (ns34, 0) s34 bs34 (x1_least_res_sold N tk cp sh fc A H K) (x1_least_res_fallen N tk cp sh fc A H K) ∧ zFrK [(q, 0), (q, 1), (q, 2)] G0 G := ⟨hM.1, hM.2.1, hM.2.2⟩
    exact z_aret hX hQ (by omega) (by omega) rfl (Or.inl ⟨_, rfl⟩) dX1_state_37 ⟨_, _, _, fn_s34, rfl, (by first | (simpa only [if_neg s1, if_pos s2] using hM) | ((try simp only [if_neg s1]); (try simp only [if_pos s2]); exact hM))⟩
  by_cases s3 : which = 2
  ·
    refine z_eqL (L' := [(0, .ref t), (1, .int 2)]) (st' := [.int 2]) (by rw [s3]) (by rw [s3]) ?_
    refine z_tableIn hX dX1_state_1 (off := 37) (tgt := 38) (by decide) (by decide) (by decide) (by decide) ?_
    refine z_aload_n hX dX1_state_38 39 rfl (i := 0) rfl 0 rfl ?_
    refine z_aload_n hX dX1_state_39 40 rfl (i := 0) rfl 0 rfl ?_
    obtain ⟨opr, os1, os2, of1, of2, ob1, ob2, hT9, h19, h29⟩ := id hM.1
    refine z_callV hX cwX1_198 (met_X1_panic hG hT9 hN) hT9.o rfl rfl dX1_state_40 43 rfl rfl rfl (Nat.le_of_ble_eq_true rfl) (by decide) ⟨by omega, by omega⟩ (fun r G hP => ?_)
    obtain ⟨ns40, s40, bs40, hzs40, rfl, hP⟩ := hP
    obtain ⟨fs9, ho9⟩ := hM.1.o
    have ne_t_s40_0 : (q, 0) ≠ (ns40, 0) := hzs40.neT ho9
    have ne_t_s40_1 : (q, 1) ≠ (ns40, 0) := hzs40.neT ho9
    have ne_t_s40_2 : (q, 2) ≠ (ns40, 0) := hzs40.neT ho9
    have nq_t_s40 : q ≠ ns40 := hzs40 _ _ _ ho9
    have fn_s40 : zFresh G0 ns40 := hzs40.of' hM.2 (zfm1 nq_t_s40 (zfm1 nq_t_s40 (zfm1 nq_t_s40 zfm0)))
    have hM : zTw g G q t B N tk cp sh fc gn ∧ zSt g G (ns40, 0) s40 bs40 (x1_panic_res_sold N cp A K) (x1_panic_res_fallen H) ∧ zFrK [(q, 0), (q, 1), (q, 2)] G0 G := ⟨⟨_, os1, os2, of1, of2, ob1, ob2, hP.1, h19.kp (hP.2.2.kp zni0), h29.kp (hP.2.2.kp zni0)⟩, hP.2.1, hM.2.stepL hP.2.2 zml0⟩
    show ZW g X 2 6 G 43 [(0, .ref t), (1, .int 2)] [.ref s40, .ref t]
    refine z_ldc hX q611 dX1_state_43 45 rfl ?_
    refine z_eqL (L' := [(0, .ref t), (1, .int 2)]) (st' := [.int (nI zForever), .ref s40, .ref t]) rfl (by rw [big1000000]) ?_
    obtain ⟨fs9, ho9⟩ := hM.1.o
    refine z_callV hX cwX1_191 (met_X1_walk hG hM.1 hM.2.1 hN (Ne.symm ne_t_s40_0) (Ne.symm ne_t_s40_1) (Ne.symm ne_t_s40_2) zForever zFor_lt) ho9 rfl rfl dX1_state_45 48 rfl rfl rfl (Nat.le_of_ble_eq_true rfl) (by decide) ⟨by omega, by omega⟩ (fun r G hP => ?_)
    obtain ⟨ns45, s45, bs45, hzs45, rfl, hP⟩ := hP
    obtain ⟨fs9, ho9⟩ := hM.1.o
    have ne_t_s45_0 : (q, 0) ≠ (ns45, 0) := hzs45.neT ho9
    have ne_t_s45_1 : (q, 1) ≠ (ns45, 0) := hzs45.neT ho9
    have ne_t_s45_2 : (q, 2) ≠ (ns45, 0) := hzs45.neT ho9
    have nq_t_s45 : q ≠ ns45 := hzs45 _ _ _ ho9
    have ne_s40_s45 : (ns40, 0) ≠ (ns45, 0) := hzs45.neS hM.2.1.o
    have fn_s45 : zFresh G0 ns45 := hzs45.of' hM.2.2 (zfm1 nq_t_s45 (zfm1 nq_t_s45 (zfm1 nq_t_s45 zfm0)))
    have hM : zTw g G q t B N tk cp sh fc (nI (fs_gone N tk cp sh fc A H K ((x1_panic_res_sold N cp A K), (x1_panic_res_fallen H)) zForever)) ∧ zSt g G (ns40, 0) s40 bs40 (x1_panic_res_sold N cp A K) (x1_panic_res_fallen H) ∧ zSt g G (ns45, 0) s45 bs45 (fs_ws N tk cp sh fc A H K ((x1_panic_res_sold N cp A K), (x1_panic_res_fallen H)) (fs_gone N tk cp sh fc A H K ((x1_panic_res_sold N cp A K), (x1_panic_res_fallen H)) zForever)) (fs_wf N tk cp sh fc A H K ((x1_panic_res_sold N cp A K), (x1_panic_res_fallen H)) (fs_gone N tk cp sh fc A H K ((x1_panic_res_sold N cp A K), (x1_panic_res_fallen H)) zForever)) ∧ zFrK [(q, 0), (q, 1), (q, 2)] G0 G := ⟨hP.1, hP.2.1, hP.2.2.1, hM.2.2.stepL hP.2.2.2 (zml1 (Or.inl List.mem_cons_self) (zml1 (Or.inl (List.mem_cons_of_mem _ List.mem_cons_self)) (zml1 (Or.inl (List.mem_cons_of_mem _ (List.mem_cons_of_mem _ List.mem_cons_self))) zml0)))⟩
    show ZW g X 5 16 G 48 [(0, .ref t), (1, .int 2)] [.ref s45]
    have hM : zTw g G q t B N tk cp sh fc (nI (fs_gone N tk cp sh fc A H K ((x1_panic_res_sold N cp A K), (x1_panic_res_fallen H)) zForever)) ∧ zSt g G (ns45, 0) s45 bs45 (fs_ws N tk cp sh fc A H K ((x1_panic_res_sold N cp A K), (x1_panic_res_fallen H)) (fs_gone N tk cp sh fc A H K ((x1_panic_res_sold N cp A K), (x1_panic_res_fallen H)) zForever)) (fs_wf N tk cp sh fc A H K ((x1_panic_res_sold N cp A K), (x1_panic_res_fallen H)) (fs_gone N tk cp sh fc A H K ((x1_panic_res_sold N cp A K), (x1_panic_res_fallen H)) zForever)) ∧ zFrK [(q, 0), (q, 1), (q, 2)] G0 G := ⟨hM.1, hM.2.2.1, hM.2.2.2⟩
    exact z_aret hX hQ (by omega) (by omega) rfl (Or.inl ⟨_, rfl⟩) dX1_state_48 ⟨_, _, _, fn_s45, rfl, (by first | (simpa only [if_neg s1, if_neg s2, if_pos s3] using hM) | ((try simp only [if_neg s1]); (try simp only [if_neg s2]); (try simp only [if_pos s3]); exact hM))⟩
  have ts1 : ¬ (which).toInt = 0 := fun e => s1 (Int32.toInt_inj.mp (e.trans (by decide)))
  have ts2 : ¬ (which).toInt = 1 := fun e => s2 (Int32.toInt_inj.mp (e.trans (by decide)))
  have ts3 : ¬ (which).toInt = 2 := fun e => s3 (Int32.toInt_inj.mp (e.trans (by decide)))
  refine z_tableOut hX dX1_state_1 (by omega) (tgt := 49) (by decide) ?_
  refine z_aload_n hX dX1_state_49 50 rfl (i := 0) rfl 0 rfl ?_
  obtain ⟨opr, os1, os2, of1, of2, ob1, ob2, hT9, h19, h29⟩ := id hM.1
  refine z_callV hX cwX1_198 (met_X1_panic hG hT9 hN) hT9.o rfl rfl dX1_state_50 53 rfl rfl rfl (Nat.le_of_ble_eq_true rfl) (by decide) ⟨by omega, by omega⟩ (fun r G hP => ?_)
  obtain ⟨ns50, s50, bs50, hzs50, rfl, hP⟩ := hP
  obtain ⟨fs9, ho9⟩ := hM.1.o
  have ne_t_s50_0 : (q, 0) ≠ (ns50, 0) := hzs50.neT ho9
  have ne_t_s50_1 : (q, 1) ≠ (ns50, 0) := hzs50.neT ho9
  have ne_t_s50_2 : (q, 2) ≠ (ns50, 0) := hzs50.neT ho9
  have nq_t_s50 : q ≠ ns50 := hzs50 _ _ _ ho9
  have fn_s50 : zFresh G0 ns50 := hzs50.of' hM.2 (zfm1 nq_t_s50 (zfm1 nq_t_s50 (zfm1 nq_t_s50 zfm0)))
  have hM : zTw g G q t B N tk cp sh fc gn ∧ zSt g G (ns50, 0) s50 bs50 (x1_panic_res_sold N cp A K) (x1_panic_res_fallen H) ∧ zFrK [(q, 0), (q, 1), (q, 2)] G0 G := ⟨⟨_, os1, os2, of1, of2, ob1, ob2, hP.1, h19.kp (hP.2.2.kp zni0), h29.kp (hP.2.2.kp zni0)⟩, hP.2.1, hM.2.stepL hP.2.2 zml0⟩
  show ZW g X 2 6 G 53 [(0, .ref t), (1, .int which)] [.ref s50]
  have hM : zTw g G q t B N tk cp sh fc gn ∧ zSt g G (ns50, 0) s50 bs50 (x1_panic_res_sold N cp A K) (x1_panic_res_fallen H) ∧ zFrK [(q, 0), (q, 1), (q, 2)] G0 G := ⟨hM.1, hM.2.1, hM.2.2⟩
  exact z_aret hX hQ (by omega) (by omega) rfl (Or.inl ⟨_, rfl⟩) dX1_state_53 ⟨_, _, _, fn_s50, rfl, (by first | (simpa only [if_neg s1, if_neg s2, if_neg s3] using hM) | ((try simp only [if_neg s1]); (try simp only [if_neg s2]); (try simp only [if_neg s3]); exact hM))⟩
def x1_ratio (N : Nat → Int32) (tk : Nat → Int32) (sh : Nat → Int32) (s_sold : Nat → Int32) (K : Nat → Nat) (a : Nat) : UInt32 := if (x1_calmPrice N sh K a) = 0 then FP.fconst1 else FP.fdiv (FP.i2f (x1_price N tk sh s_sold K a)) (FP.i2f (x1_calmPrice N sh K a))
set_option maxHeartbeats 4000000 in
theorem met_X1_ratio {g : Zg} (hG : zG g) {G : zHG} {q t : Nat} {B : Nat → Nat → Nat} {N tk cp sh pr : Nat → Int32} {fc gn : Int32} {ks : Nat × Nat} {s : Nat} {bs : Nat} {s_sold : Nat → Int32} {s_fallen : Int32} (ht : zTo g G q t B N tk cp sh pr fc gn) (hs : zSt g G ks s bs s_sold s_fallen) {A H : Nat} {K : Nat → Nat} (hN : zWf N A H K) (a : Nat) (h_a : a < 4) (af0 : ¬ ((x1_calmPrice N sh K a) = 0) → vf_n32 (FP.fdiv (FP.i2f (x1_price N tk sh s_sold K a)) (FP.i2f (x1_calmPrice N sh K a)))) : ZM g yX1_ratio cX1_ratio 4 (some FieldType.float) 5 0 0 [.ref t, .ref s, .int (nI a)] G (zRet (some (.float (x1_ratio N tk sh s_sold K a))) G) := by
  unfold x1_ratio
  have hN2 := hN.2.1
  have hN4 := hN.2.2.2.1
  refine ZM_mk hG (by decide) (Nat.le_of_ble_eq_true rfl) ?_
  intro X hX hname hQ
  show ZW g X 0 0 G 0 [(0, .ref t), (1, .ref s), (2, .int (nI a))] []
  refine z_aload_n hX dX1_ratio_0 1 rfl (i := 0) rfl 0 rfl ?_
  refine z_iload_n hX dX1_ratio_1 2 rfl (i := 2) rfl 2 rfl ?_
  refine z_callVp hX cwX1_201 (w := .int (x1_calmPrice N sh K a)) (met_X1_calmPrice hG ht hN a (by omega)) ht.o rfl rfl dX1_ratio_2 5 rfl rfl rfl (Nat.le_of_ble_eq_true rfl) (by decide) ⟨Nat.zero_le _, Nat.zero_le _⟩ ?_
  refine z_istore_n hX dX1_ratio_5 6 rfl (i := 3) rfl (Nat.le_of_ble_eq_true rfl) rfl (L' := [(0, .ref t), (1, .ref s), (2, .int (nI a)), (3, .int (x1_calmPrice N sh K a))]) rfl ?_
  refine z_iload_n hX dX1_ratio_6 7 rfl (i := 3) rfl 3 rfl ?_
  have J2 : ZW g X 0 0 G 24 [(0, .ref t), (1, .ref s), (2, .int (nI a)), (3, .int (x1_calmPrice N sh K a))] [.float (if (x1_calmPrice N sh K a) = 0 then FP.fconst1 else FP.fdiv (FP.i2f (x1_price N tk sh s_sold K a)) (FP.i2f (x1_calmPrice N sh K a)))] := by
    exact z_fret hX hQ (Nat.zero_le _) (Nat.zero_le _) rfl dX1_ratio_24 ⟨rfl, rfl⟩
  refine z_if_ne hX dX1_ratio_7 10 rfl (tgt := 14) (by decide) (fun c1 => ?_) (fun c1 => ?_)
  ·
    refine z_aload_n hX dX1_ratio_14 15 rfl (i := 0) rfl 0 rfl ?_
    refine z_aload_n hX dX1_ratio_15 16 rfl (i := 1) rfl 1 rfl ?_
    refine z_iload_n hX dX1_ratio_16 17 rfl (i := 2) rfl 2 rfl ?_
    refine z_callVp hX cwX1_135 (w := .int (x1_price N tk sh s_sold K a)) (met_X1_price hG ht hs hN a (by omega)) ht.o rfl rfl dX1_ratio_17 20 rfl rfl rfl (Nat.le_of_ble_eq_true rfl) (by decide) ⟨Nat.zero_le _, Nat.zero_le _⟩ ?_
    refine z_i2f hX dX1_ratio_20 21 rfl ?_
    refine z_iload_n hX dX1_ratio_21 22 rfl (i := 3) rfl 3 rfl ?_
    refine z_i2f hX dX1_ratio_22 23 rfl ?_
    refine z_fdiv hX dX1_ratio_23 24 rfl (af0 c1) ?_
    exact z_eqL rfl (by first | (simp only [if_neg c1] <;> rfl; done) | grind) J2
  ·
    refine z_fconst1 hX dX1_ratio_10 11 rfl ?_
    refine z_goto hX dX1_ratio_11 (tgt := 24) (by decide) ?_
    exact z_eqL rfl (by first | (simp only [if_pos c1] <;> rfl; done) | grind) J2
def x1_index_l16 (N : Nat → Int32) (tk : Nat → Int32) (sh : Nat → Int32) (s_sold : Nat → Int32) (K : Nat → Nat) (ini : UInt32) (k : Nat) : UInt32 := zfold k (fun j2 cj2 => FP.fadd cj2 (FP.fmul (x1_ratio N tk sh s_sold K j2) (FP.i2f (x1_held N j2)))) ini
theorem x1_index_l16_0 (N : Nat → Int32) (tk : Nat → Int32) (sh : Nat → Int32) (s_sold : Nat → Int32) (K : Nat → Nat) (ini : UInt32) : x1_index_l16 N tk sh s_sold K ini 0 = ini := (zfold_0 _ _).trans (Eq.refl _)
def x1_index (N : Nat → Int32) (tk : Nat → Int32) (sh : Nat → Int32) (s_sold : Nat → Int32) (A : Nat) (K : Nat → Nat) : UInt32 := if (x1_heldAll N A) = 0 then FP.fconst1 else FP.fdiv (x1_index_l16 N tk sh s_sold K FP.fconst0 A) (FP.i2f (x1_heldAll N A))
set_option maxHeartbeats 4000000 in
theorem met_X1_index {g : Zg} (hG : zG g) {G : zHG} {q t : Nat} {B : Nat → Nat → Nat} {N tk cp sh pr : Nat → Int32} {fc gn : Int32} {ks : Nat × Nat} {s : Nat} {bs : Nat} {s_sold : Nat → Int32} {s_fallen : Int32} (ht : zTo g G q t B N tk cp sh pr fc gn) (hs : zSt g G ks s bs s_sold s_fallen) {A H : Nat} {K : Nat → Nat} (hN : zWf N A H K) (af0 : vf_n32 (FP.fdiv (x1_index_l16 N tk sh s_sold K FP.fconst0 A) (FP.i2f (x1_heldAll N A)))) (af1 : ∀ j2 : Nat, j2 < A → ¬ ((x1_calmPrice N sh K j2) = 0) → vf_n32 (FP.fdiv (FP.i2f (x1_price N tk sh s_sold K j2)) (FP.i2f (x1_calmPrice N sh K j2)))) (af2 : ∀ j2 : Nat, j2 < A → vf_n32 (FP.fmul (x1_ratio N tk sh s_sold K j2) (FP.i2f (x1_held N j2)))) (af3 : ∀ j2 : Nat, j2 < A → vf_n32 (FP.fadd (x1_index_l16 N tk sh s_sold K FP.fconst0 j2) (FP.fmul (x1_ratio N tk sh s_sold K j2) (FP.i2f (x1_held N j2))))) : ZM g yX1_index cX1_index 5 (some FieldType.float) 6 0 0 [.ref t, .ref s] G (zRet (some (.float (x1_index N tk sh s_sold A K))) G) := by
  unfold x1_index
  have hN2 := hN.2.1
  have hN4 := hN.2.2.2.1
  refine ZM_mk hG (by decide) (Nat.le_of_ble_eq_true rfl) ?_
  intro X hX hname hQ
  show ZW g X 0 0 G 0 [(0, .ref t), (1, .ref s)] []
  refine z_fconst0 hX dX1_index_0 1 rfl ?_
  refine z_fstore_n hX dX1_index_1 2 rfl (i := 2) rfl (Nat.le_of_ble_eq_true rfl) rfl (L' := [(0, .ref t), (1, .ref s), (2, .float FP.fconst0)]) rfl ?_
  refine z_aload_n hX dX1_index_2 3 rfl (i := 0) rfl 0 rfl ?_
  refine z_callVp hX cwX1_220 (w := .int (x1_heldAll N A)) (met_X1_heldAll hG ht hN) ht.o rfl rfl dX1_index_3 6 rfl rfl rfl (Nat.le_of_ble_eq_true rfl) (by decide) ⟨Nat.zero_le _, Nat.zero_le _⟩ ?_
  refine z_istore_n hX dX1_index_6 7 rfl (i := 3) rfl (Nat.le_of_ble_eq_true rfl) rfl (L' := [(0, .ref t), (1, .ref s), (2, .float FP.fconst0), (3, .int (x1_heldAll N A))]) rfl ?_
  refine z_iload_n hX dX1_index_7 8 rfl (i := 3) rfl 3 rfl ?_
  refine z_if_ne hX dX1_index_8 11 rfl (tgt := 13) (by decide) (fun c1 => ?_) (fun c1 => ?_)
  ·
    refine z_iconst hX dX1_index_13 14 rfl zki_0 ?_
    refine z_istore hX dX1_index_14 16 rfl (Nat.le_of_ble_eq_true rfl) rfl (L' := [(0, .ref t), (1, .ref s), (2, .float FP.fconst0), (3, .int (x1_heldAll N A)), (4, .int 0)]) rfl ?_
    have E3 : ZW g X 0 0 G 49 [(0, .ref t), (1, .ref s), (2, .float (x1_index_l16 N tk sh s_sold K FP.fconst0 A)), (3, .int (x1_heldAll N A)), (4, .int (nI A))] [] := by
      refine z_fload_n hX dX1_index_49 50 rfl (i := 2) rfl 2 rfl ?_
      refine z_iload_n hX dX1_index_50 51 rfl (i := 3) rfl 3 rfl ?_
      refine z_i2f hX dX1_index_51 52 rfl ?_
      refine z_fdiv hX dX1_index_52 53 rfl af0 ?_
      exact z_fret hX hQ (Nat.zero_le _) (Nat.zero_le _) rfl dX1_index_53 ⟨(by first | (simp only [if_neg c1] <;> rfl; done) | grind), rfl⟩
    have Lp4 : ∀ k j2 : Nat, j2 + k = A → ZW g X 0 0 G 16 [(0, .ref t), (1, .ref s), (2, .float (x1_index_l16 N tk sh s_sold K FP.fconst0 j2)), (3, .int (x1_heldAll N A)), (4, .int (nI j2))] [] := by
      intro k
      induction k with
      | zero =>
        intro j2 hj2
        rw [show j2 = A from by omega]
        refine z_iload hX dX1_index_16 18 rfl 4 rfl ?_
        refine z_aload_n hX dX1_index_18 19 rfl (i := 0) rfl 0 rfl ?_
        refine z_getf hX fX1_70 ht.o dX1_index_19 22 rfl (x := .int (nI A)) (congrArg (fun z => some (Value.int z)) hN.1) ?_
        refine z_icmp_geN hX A A (by omega) (by omega) dX1_index_22 25 rfl (tgt := 49) (by decide) (fun c5 => ?_) (fun c5 => ?_)
        · exact E3
        · exact absurd c5 (by omega)
      | succ k ih =>
        intro j2 hj2
        refine z_iload hX dX1_index_16 18 rfl 4 rfl ?_
        refine z_aload_n hX dX1_index_18 19 rfl (i := 0) rfl 0 rfl ?_
        refine z_getf hX fX1_70 ht.o dX1_index_19 22 rfl (x := .int (nI A)) (congrArg (fun z => some (Value.int z)) hN.1) ?_
        refine z_icmp_geN hX j2 A (by omega) (by omega) dX1_index_22 25 rfl (tgt := 49) (by decide) (fun c6 => ?_) (fun c6 => ?_)
        · exact absurd c6 (by omega)
        ·
          refine z_fload_n hX dX1_index_25 26 rfl (i := 2) rfl 2 rfl ?_
          refine z_aload_n hX dX1_index_26 27 rfl (i := 0) rfl 0 rfl ?_
          refine z_aload_n hX dX1_index_27 28 rfl (i := 1) rfl 1 rfl ?_
          refine z_iload hX dX1_index_28 30 rfl 4 rfl ?_
          refine z_callVp hX cwX1_223 (w := .float (x1_ratio N tk sh s_sold K j2)) (met_X1_ratio hG ht hs hN j2 (by omega) (af1 j2 (by omega))) ht.o rfl rfl dX1_index_30 33 rfl rfl rfl (Nat.le_of_ble_eq_true rfl) (by decide) ⟨Nat.zero_le _, Nat.zero_le _⟩ ?_
          refine z_aload_n hX dX1_index_33 34 rfl (i := 0) rfl 0 rfl ?_
          refine z_iload hX dX1_index_34 36 rfl 4 rfl ?_
          refine z_callVp hX cwX1_91 (w := .int (x1_held N j2)) (met_X1_held hG ht j2 (by omega)) ht.o rfl rfl dX1_index_36 39 rfl rfl rfl (Nat.le_of_ble_eq_true rfl) (by decide) ⟨Nat.zero_le _, Nat.zero_le _⟩ ?_
          refine z_i2f hX dX1_index_39 40 rfl ?_
          refine z_fmul hX dX1_index_40 41 rfl (af2 j2 (by omega)) ?_
          refine z_fadd hX dX1_index_41 42 rfl (af3 j2 (by omega)) ?_
          refine z_fstore_n hX dX1_index_42 43 rfl (i := 2) rfl (Nat.le_of_ble_eq_true rfl) rfl (L' := [(0, .ref t), (1, .ref s), (2, .float (FP.fadd (x1_index_l16 N tk sh s_sold K FP.fconst0 j2) (FP.fmul (x1_ratio N tk sh s_sold K j2) (FP.i2f (x1_held N j2))))), (3, .int (x1_heldAll N A)), (4, .int (nI j2))]) rfl ?_
          refine z_iinc hX dX1_index_43 46 rfl 4 rfl (w := nI (j2 + 1)) (nI_1 j2) (Nat.le_of_ble_eq_true rfl) rfl (L' := [(0, .ref t), (1, .ref s), (2, .float (FP.fadd (x1_index_l16 N tk sh s_sold K FP.fconst0 j2) (FP.fmul (x1_ratio N tk sh s_sold K j2) (FP.i2f (x1_held N j2))))), (3, .int (x1_heldAll N A)), (4, .int (nI (j2 + 1)))]) rfl ?_
          refine z_goto hX dX1_index_46 (tgt := 16) (by decide) ?_
          exact ih (j2 + 1) (by omega)
    exact Lp4 A 0 (by omega)
  ·
    refine z_fconst1 hX dX1_index_11 12 rfl ?_
    exact z_fret hX hQ (Nat.zero_le _) (Nat.zero_le _) rfl dX1_index_12 ⟨(by first | (simp only [if_pos c1] <;> rfl; done) | grind), rfl⟩
def x1_drop (N : Nat → Int32) (tk : Nat → Int32) (sh : Nat → Int32) (s_sold : Nat → Int32) (A : Nat) (K : Nat → Nat) : Int32 := FP.f2i (FP.fmul (FP.fsub FP.fconst1 (x1_index N tk sh s_sold A K)) 1148846080)
set_option maxHeartbeats 4000000 in
theorem met_X1_drop {g : Zg} (hG : zG g) {G : zHG} {q t : Nat} {B : Nat → Nat → Nat} {N tk cp sh pr : Nat → Int32} {fc gn : Int32} {ks : Nat × Nat} {s : Nat} {bs : Nat} {s_sold : Nat → Int32} {s_fallen : Int32} (ht : zTo g G q t B N tk cp sh pr fc gn) (hs : zSt g G ks s bs s_sold s_fallen) {A H : Nat} {K : Nat → Nat} (hN : zWf N A H K) (af0 : vf_n32 (FP.fdiv (x1_index_l16 N tk sh s_sold K FP.fconst0 A) (FP.i2f (x1_heldAll N A)))) (af1 : ∀ qj2 : Nat, qj2 < A → ¬ ((x1_calmPrice N sh K qj2) = 0) → vf_n32 (FP.fdiv (FP.i2f (x1_price N tk sh s_sold K qj2)) (FP.i2f (x1_calmPrice N sh K qj2)))) (af2 : ∀ qj2 : Nat, qj2 < A → vf_n32 (FP.fmul (x1_ratio N tk sh s_sold K qj2) (FP.i2f (x1_held N qj2)))) (af3 : ∀ qj2 : Nat, qj2 < A → vf_n32 (FP.fadd (x1_index_l16 N tk sh s_sold K FP.fconst0 qj2) (FP.fmul (x1_ratio N tk sh s_sold K qj2) (FP.i2f (x1_held N qj2))))) (af4 : vf_n32 (FP.fsub FP.fconst1 (x1_index N tk sh s_sold A K))) (af5 : vf_n32 (FP.fmul (FP.fsub FP.fconst1 (x1_index N tk sh s_sold A K)) 1148846080)) : ZM g yX1_drop cX1_drop 2 (some FieldType.int) 7 0 0 [.ref t, .ref s] G (zRet (some (.int (x1_drop N tk sh s_sold A K))) G) := by
  unfold x1_drop
  have hN2 := hN.2.1
  have hN4 := hN.2.2.2.1
  refine ZM_mk hG (by decide) (Nat.le_of_ble_eq_true rfl) ?_
  intro X hX hname hQ
  show ZW g X 0 0 G 0 [(0, .ref t), (1, .ref s)] []
  refine z_fconst1 hX dX1_drop_0 1 rfl ?_
  refine z_aload_n hX dX1_drop_1 2 rfl (i := 0) rfl 0 rfl ?_
  refine z_aload_n hX dX1_drop_2 3 rfl (i := 1) rfl 1 rfl ?_
  refine z_callVp hX cwX1_227 (w := .float (x1_index N tk sh s_sold A K)) (met_X1_index hG ht hs hN af0 af1 af2 af3) ht.o rfl rfl dX1_drop_3 6 rfl rfl rfl (Nat.le_of_ble_eq_true rfl) (by decide) ⟨Nat.zero_le _, Nat.zero_le _⟩ ?_
  refine z_fsub hX dX1_drop_6 7 rfl af4 ?_
  refine z_ldcf hX q1042 dX1_drop_7 9 rfl ?_
  refine z_fmul hX dX1_drop_9 10 rfl af5 ?_
  refine z_f2i hX dX1_drop_10 11 rfl ?_
  exact z_iret hX hQ (Nat.zero_le _) (Nat.zero_le _) rfl dX1_drop_11 ⟨rfl, rfl⟩
