set_option maxRecDepth 100000
def x1_sells_2_res_f (N : Nat → Int32) (tk : Nat → Int32) (sh : Nat → Int32) (s_sold : Nat → Int32) (s_fallen : Int32) (A : Nat) (H : Nat) (K : Nat → Nat) (h : Nat) : Nat → Int32 := x1_sells_onto_f N (fun _ => 0) A h (x1_mustSellW N tk sh s_sold s_fallen A H K h)
set_option maxHeartbeats 4000000 in
theorem met_X1_sells_2 {g : Zg} (hG : zG g) {G0 : zHG} {q t : Nat} {B : Nat → Nat → Nat} {N tk cp sh : Nat → Int32} {fc gn : Int32} {ks : Nat × Nat} {s : Nat} {bs : Nat} {s_sold : Nat → Int32} {s_fallen : Int32} (ht : zTw g G0 q t B N tk cp sh fc gn) (hs : zSt g G0 ks s bs s_sold s_fallen) {A H : Nat} {K : Nat → Nat} (hN : zWf N A H K) (ne_t_s_00 : (q, 0) ≠ ks) (ne_t_s_10 : (q, 1) ≠ ks) (ne_t_s_20 : (q, 2) ≠ ks) (h : Nat) (h_h : h < H)  : ZM g yX1_sells_2 cX1_sells_2 4 (some (FieldType.array FieldType.int)) 8 1 4 [.ref t, .ref s, .int (nI h)] G0 (fun r G' => ∃ nR aR : Nat, zFresh G0 nR ∧ r = some (.ref aR) ∧ (zTw g G' q t B N tk cp sh fc gn ∧ zSt g G' ks s bs s_sold s_fallen ∧ zAr G' aR (nR, 0) (zca g 0) 4 (x1_sells_2_res_f N tk sh s_sold s_fallen A H K h) ∧ zFrK [(q, 0), (q, 1), (q, 2)] G0 G')) := by
  unfold x1_sells_2_res_f
  have hN2 := hN.2.1
  have hN4 := hN.2.2.2.1
  refine ZM_mk hG (by decide) (Nat.le_of_ble_eq_true rfl) ?_
  intro X hX hname hQ
  obtain ⟨G, hGe⟩ : ∃ z, z = G0 := ⟨_, rfl⟩
  have hM : zTw g G q t B N tk cp sh fc gn ∧ zSt g G ks s bs s_sold s_fallen ∧ zFrK [(q, 0), (q, 1), (q, 2)] G0 G := by rw [hGe]; exact ⟨ht, hs, zFrK.rf⟩
  show ZW g X 0 0 G0 0 [(0, .ref t), (1, .ref s), (2, .int (nI h))] []
  rw [← hGe]
  refine z_iconst hX dX1_sells_2_0 1 rfl zki_4 ?_
  refine z_fresh (fun na1 hza1 => ?_)
  obtain ⟨fs9, ho9⟩ := hM.1.o
  have ne_t_a1_0 : (q, 0) ≠ (na1, 0) := hza1.neT ho9
  have ne_t_a1_1 : (q, 1) ≠ (na1, 0) := hza1.neT ho9
  have ne_t_a1_2 : (q, 2) ≠ (na1, 0) := hza1.neT ho9
  have nq_t_a1 : q ≠ na1 := hza1 _ _ _ ho9
  have ne_s_a1 : ks ≠ (na1, 0) := hza1.neS hM.2.1.o
  have fn_a1 : zFresh G0 na1 := hza1.of' hM.2.2 (zfm1 nq_t_a1 (zfm1 nq_t_a1 (zfm1 nq_t_a1 zfm0)))
  refine z_newa hX (atype := .int) (fun _ => (na1, 0)) 0 rfl rfl q168 (N := 4) (a0 := (4, .inl (fun _ => 0))) (fun _ => rfl) dX1_sells_2_1 3 rfl (by decide) (by decide) (by decide) (by omega) (by omega) (fun a1 haa1 _ => ?_)
  have hf : zFrK [] _ (zup G a1 ((na1, 0), zI (zca g 0) 4 (fun _ => 0))) := zup_new haa1
  have hw : zAr (zup G a1 ((na1, 0), zI (zca g 0) 4 (fun _ => 0))) a1 (na1, 0) (zca g 0) 4 (fun _ => 0) := ⟨_, zup_self _ _ _, fun _ _ => rfl⟩
  generalize zup G a1 ((na1, 0), zI (zca g 0) 4 (fun _ => 0)) = G at hf hw ⊢
  have hM : zTw g G q t B N tk cp sh fc gn ∧ zSt g G ks s bs s_sold s_fallen ∧ zAr G a1 (na1, 0) (zca g 0) 4 (fun _ => 0) ∧ zFrK [(q, 0), (q, 1), (q, 2)] G0 G := ⟨hM.1.kp (hf.kp zni0) (hf.kp zni0) (hf.kp zni0), hM.2.1.kp (hf.kp zni0), hw, hM.2.2.stepL hf zml0⟩
  refine z_astore_n hX dX1_sells_2_3 4 rfl (i := 3) rfl (Nat.le_of_ble_eq_true rfl) rfl (L' := [(0, .ref t), (1, .ref s), (2, .int (nI h)), (3, .ref a1)]) rfl ?_
  refine z_aload_n hX dX1_sells_2_4 5 rfl (i := 0) rfl 0 rfl ?_
  refine z_iload_n hX dX1_sells_2_5 6 rfl (i := 2) rfl 2 rfl ?_
  refine z_aload_n hX dX1_sells_2_6 7 rfl (i := 0) rfl 0 rfl ?_
  refine z_aload_n hX dX1_sells_2_7 8 rfl (i := 1) rfl 1 rfl ?_
  refine z_iload_n hX dX1_sells_2_8 9 rfl (i := 2) rfl 2 rfl ?_
  obtain ⟨fs9, ho9⟩ := hM.1.o
  refine z_callV hX cwX1_158 (met_x1_mustSellW hG hM.1 hM.2.1 hN ne_t_s_00 ne_t_s_10 ne_t_s_20 h (by omega)) ho9 rfl rfl dX1_sells_2_9 12 rfl rfl rfl (Nat.le_of_ble_eq_true rfl) (by decide) ⟨by omega, by omega⟩ (fun r G hP => ?_)
  obtain ⟨rfl, hP⟩ := hP
  have hM : zTw g G q t B N tk cp sh fc gn ∧ zSt g G ks s bs s_sold s_fallen ∧ zAr G a1 (na1, 0) (zca g 0) 4 (fun _ => 0) ∧ zFrK [(q, 0), (q, 1), (q, 2)] G0 G := ⟨hP.1, hP.2.1, hM.2.2.1.kp (hP.2.2.kp (zni1 (Ne.symm ne_t_a1_0) (zni1 (Ne.symm ne_t_a1_1) (zni1 (Ne.symm ne_t_a1_2) zni0)))) (zky0 na1 0 (by decide)), hM.2.2.2.stepL hP.2.2 (zml1 (Or.inl List.mem_cons_self) (zml1 (Or.inl (List.mem_cons_of_mem _ List.mem_cons_self)) (zml1 (Or.inl (List.mem_cons_of_mem _ (List.mem_cons_of_mem _ List.mem_cons_self))) zml0)))⟩
  show ZW g X 1 4 G 12 [(0, .ref t), (1, .ref s), (2, .int (nI h)), (3, .ref a1)] [.int (x1_mustSellW N tk sh s_sold s_fallen A H K h), .int (nI h), .ref t]
  refine z_aload_n hX dX1_sells_2_12 13 rfl (i := 3) rfl 3 rfl ?_
  obtain ⟨opr, os1, os2, of1, of2, ob1, ob2, hT9, h19, h29⟩ := id hM.1
  refine z_callV hX cwX1_160 (met_X1_sells hG hT9 hM.2.2.1 hN (by rw [(zky0 na1 0 (by decide))]; exact (show ¬ 0 = 9 from by decide)) (by rw [(zky0 na1 0 (by decide))]; exact ne_t_a1_0) h (x1_mustSellW N tk sh s_sold s_fallen A H K h) (by omega)) hT9.o rfl rfl dX1_sells_2_13 16 rfl rfl rfl (Nat.le_of_ble_eq_true rfl) (by decide) ⟨by omega, by omega⟩ (fun r G hP => ?_)
  obtain ⟨rfl, hP⟩ := hP
  have hfK : zFrK [(na1, 0)] _ G := hP.2.2.toK (zky0 na1 0 (by decide)) (show ¬ 0 = 9 from by decide)
  have hM : zTw g G q t B N tk cp sh fc gn ∧ zSt g G ks s bs s_sold s_fallen ∧ zAr G a1 (na1, 0) (zca g 0) 4 (x1_sells_onto_f N (fun _ => 0) A h (x1_mustSellW N tk sh s_sold s_fallen A H K h)) ∧ zFrK [(q, 0), (q, 1), (q, 2)] G0 G := ⟨hM.1.kp (hfK.kp (zni1 ne_t_a1_0 zni0)) (hfK.kp (zni1 ne_t_a1_1 zni0)) (hfK.kp (zni1 ne_t_a1_2 zni0)), hM.2.1.kp (hfK.kp (zni1 ne_s_a1 zni0)), hP.2.1, hM.2.2.2.stepF hfK fn_a1⟩
  show ZW g X 1 4 G 16 [(0, .ref t), (1, .ref s), (2, .int (nI h)), (3, .ref a1)] []
  refine z_aload_n hX dX1_sells_2_16 17 rfl (i := 3) rfl 3 rfl ?_
  have hM : zTw g G q t B N tk cp sh fc gn ∧ zSt g G ks s bs s_sold s_fallen ∧ zAr G a1 (na1, 0) (zca g 0) 4 (x1_sells_onto_f N (fun _ => 0) A h (x1_mustSellW N tk sh s_sold s_fallen A H K h)) ∧ zFrK [(q, 0), (q, 1), (q, 2)] G0 G := ⟨hM.1, hM.2.1, hM.2.2.1, hM.2.2.2⟩
  exact z_aret hX hQ (by omega) (by omega) rfl (Or.inr ⟨_, rfl⟩) dX1_sells_2_17 ⟨_, _, fn_a1, rfl, hM⟩
noncomputable def x0_mustSell (N : Nat → Int32) (tk : Nat → Int32) (cp : Nat → Int32) (sh : Nat → Int32) (fc : Int32) (A : Nat) (H : Nat) (K : Nat → Nat) (which : Int32) (house : Int32) (asset : Int32) : Int32 := (if zin which 4 then (if zin house H then (if asset = (-1) then x1_mustSellW N tk sh (x1_state_res_sold N tk cp sh fc A H K (nI which.toNatClampNeg)) (x1_state_res_fallen N tk cp sh fc A H K (nI which.toNatClampNeg)) A H K house.toNatClampNeg else (if zin asset A then (x1_sells_2_res_f N tk sh (x1_state_res_sold N tk cp sh fc A H K (nI which.toNatClampNeg)) (x1_state_res_fallen N tk cp sh fc A H K (nI which.toNatClampNeg)) A H K house.toNatClampNeg) asset.toNatClampNeg else (-1) : Int32) : Int32) else (-1) : Int32) else (-1) : Int32)
noncomputable def x0_mustSell_gn (N : Nat → Int32) (tk : Nat → Int32) (cp : Nat → Int32) (sh : Nat → Int32) (fc : Int32) (gn : Int32) (A : Nat) (H : Nat) (K : Nat → Nat) (which : Int32) (house : Int32) (asset : Int32) : Int32 := if zin which 4 then if zin house H then if asset = (-1) then x1_state_gn N tk cp sh fc gn A H K (nI which.toNatClampNeg) else if zin asset A then x1_state_gn N tk cp sh fc gn A H K (nI which.toNatClampNeg) else gn else gn else gn
set_option maxHeartbeats 4000000 in
theorem met_X0_mustSell {g : Zg} (hG : zG g) {G0 : zHG} {xq x dq tp : Nat} {bg : Value} {bl tpd : Int32} {q t : Nat} {B : Nat → Nat → Nat} {N tk cp sh : Nat → Int32} {fc gn : Int32} (hx : zFx G0 xq x t dq tp bg bl tpd) (ht : zTw g G0 q t B N tk cp sh fc gn) {A H : Nat} {K : Nat → Nat} (hN : zWf N A H K) (ne_x_t_00 : (xq, 0) ≠ (q, 0)) (ne_x_t_01 : (xq, 0) ≠ (q, 1)) (ne_x_t_02 : (xq, 0) ≠ (q, 2)) (which : Int32) (house : Int32) (asset : Int32)  : ZM g yX0_mustSell cX0_mustSell 5 (some FieldType.int) 10 6 20 [.ref x, .int which, .int house, .int asset] G0 (fun r G' => r = some (.int (x0_mustSell N tk cp sh fc A H K which house asset)) ∧ (zFx G' xq x t dq tp bg bl tpd ∧ zTw g G' q t B N tk cp sh fc (x0_mustSell_gn N tk cp sh fc gn A H K which house asset) ∧ zFrK [(q, 0), (q, 1), (q, 2)] G0 G')) := by
  unfold x0_mustSell x0_mustSell_gn
  have hN2 := hN.2.1
  have hN4 := hN.2.2.2.1
  refine ZM_mk hG (by decide) (Nat.le_of_ble_eq_true rfl) ?_
  intro X hX hname hQ
  obtain ⟨G, hGe⟩ : ∃ z, z = G0 := ⟨_, rfl⟩
  have hM : zFx G xq x t dq tp bg bl tpd ∧ zTw g G q t B N tk cp sh fc gn ∧ zFrK [(q, 0), (q, 1), (q, 2)] G0 G := by rw [hGe]; exact ⟨hx, ht, zFrK.rf⟩
  show ZW g X 0 0 G0 0 [(0, .ref x), (1, .int which), (2, .int house), (3, .int asset)] []
  rw [← hGe]
  refine z_iload_n hX dX0_mustSell_0 1 rfl (i := 1) rfl 1 rfl ?_
  refine z_callSp hX cwX0_197 (w := .int (if zin which 4 then 1 else 0 : Int32)) (met_X0_isState hG which) dX0_mustSell_1 4 rfl rfl rfl (Nat.le_of_ble_eq_true rfl) (by decide) ⟨Nat.zero_le _, Nat.zero_le _⟩ ?_
  refine z_if_eqP hX (zin which 4) dX0_mustSell_4 7 rfl (tgt := 34) (by decide) (fun c1 => ?_) (fun c1 => ?_)
  ·
    refine z_iconst hX dX0_mustSell_34 35 rfl zki_m1 ?_
    exact z_iret hX hQ (by omega) (by omega) rfl dX0_mustSell_35 ⟨(by first | (simp only [if_neg c1] <;> rfl; done) | grind), (by first | (simpa only [if_neg c1] using hM) | ((try simp only [if_neg c1]); exact hM))⟩
  ·
    have e_which := zin_eq c1
    have l_which := zin_lt c1
    refine z_eqL (L' := [(0, .ref x), (1, .int (nI which.toNatClampNeg)), (2, .int house), (3, .int asset)]) (st' := []) (by rw [← e_which]) (by first | rfl | rw [← e_which]) ?_
    refine z_aload_n hX dX0_mustSell_7 8 rfl (i := 0) rfl 0 rfl ?_
    refine z_getf hX fX0_10 hM.1.o dX0_mustSell_8 11 rfl (x := .ref t) rfl ?_
    refine z_iload_n hX dX0_mustSell_11 12 rfl (i := 2) rfl 2 rfl ?_
    obtain ⟨opr, os1, os2, of1, of2, ob1, ob2, hT9, h19, h29⟩ := id hM.2.1
    refine z_callVp hX cwX0_72 (w := .int (if zin house H then 1 else 0 : Int32)) (met_X1_isHouse hG hT9 hN house) hT9.o rfl rfl dX0_mustSell_12 15 rfl rfl rfl (Nat.le_of_ble_eq_true rfl) (by decide) ⟨Nat.zero_le _, Nat.zero_le _⟩ ?_
    refine z_if_eqP hX (zin house H) dX0_mustSell_15 18 rfl (tgt := 34) (by decide) (fun c2 => ?_) (fun c2 => ?_)
    ·
      refine z_iconst hX dX0_mustSell_34 35 rfl zki_m1 ?_
      exact z_iret hX hQ (by omega) (by omega) rfl dX0_mustSell_35 ⟨(by first | (simp only [if_pos c1, if_neg c2] <;> rfl; done) | grind), (by first | (simpa only [if_pos c1, if_neg c2] using hM) | ((try simp only [if_pos c1]); (try simp only [if_neg c2]); exact hM))⟩
    ·
      have e_house := zin_eq c2
      have l_house := zin_lt c2
      refine z_eqL (L' := [(0, .ref x), (1, .int (nI which.toNatClampNeg)), (2, .int (nI house.toNatClampNeg)), (3, .int asset)]) (st' := []) (by rw [← e_house]) (by first | rfl | rw [← e_house]) ?_
      refine z_iload_n hX dX0_mustSell_18 19 rfl (i := 3) rfl 3 rfl ?_
      refine z_iconst hX dX0_mustSell_19 20 rfl zki_m1 ?_
      refine z_icmp_eq hX dX0_mustSell_20 23 rfl (tgt := 36) (by decide) (fun c3 => ?_) (fun c3 => ?_)
      ·
        refine z_eqL (L' := [(0, .ref x), (1, .int (nI which.toNatClampNeg)), (2, .int (nI house.toNatClampNeg)), (3, .int (-1))]) (st' := []) (by rw [c3]) (by first | rfl | rw [c3]) ?_
        refine z_aload_n hX dX0_mustSell_36 37 rfl (i := 0) rfl 0 rfl ?_
        refine z_getf hX fX0_10 hM.1.o dX0_mustSell_37 40 rfl (x := .ref t) rfl ?_
        refine z_iload_n hX dX0_mustSell_40 41 rfl (i := 1) rfl 1 rfl ?_
        obtain ⟨fs9, ho9⟩ := hM.2.1.o
        refine z_callV hX cwX0_202 (met_X1_state hG hM.2.1 hN (nI which.toNatClampNeg)) ho9 rfl rfl dX0_mustSell_41 44 rfl rfl rfl (Nat.le_of_ble_eq_true rfl) (by decide) ⟨by omega, by omega⟩ (fun r G hP => ?_)
        obtain ⟨ns41, s41, bs41, hzs41, rfl, hP⟩ := hP
        have ne_x_s41 : (xq, 0) ≠ (ns41, 0) := hzs41.neT hM.1.o
        obtain ⟨fs9, ho9⟩ := hM.2.1.o
        have ne_t_s41_0 : (q, 0) ≠ (ns41, 0) := hzs41.neT ho9
        have ne_t_s41_1 : (q, 1) ≠ (ns41, 0) := hzs41.neT ho9
        have ne_t_s41_2 : (q, 2) ≠ (ns41, 0) := hzs41.neT ho9
        have nq_t_s41 : q ≠ ns41 := hzs41 _ _ _ ho9
        have fn_s41 : zFresh G0 ns41 := hzs41.of' hM.2.2 (zfm1 nq_t_s41 (zfm1 nq_t_s41 (zfm1 nq_t_s41 zfm0)))
        have hM : zFx G xq x t dq tp bg bl tpd ∧ zTw g G q t B N tk cp sh fc (x1_state_gn N tk cp sh fc gn A H K (nI which.toNatClampNeg)) ∧ zSt g G (ns41, 0) s41 bs41 (x1_state_res_sold N tk cp sh fc A H K (nI which.toNatClampNeg)) (x1_state_res_fallen N tk cp sh fc A H K (nI which.toNatClampNeg)) ∧ zFrK [(q, 0), (q, 1), (q, 2)] G0 G := ⟨hM.1.kp (hP.2.2.kp (zni1 ne_x_t_00 (zni1 ne_x_t_01 (zni1 ne_x_t_02 zni0)))), hP.1, hP.2.1, hM.2.2.stepL hP.2.2 (zml1 (Or.inl List.mem_cons_self) (zml1 (Or.inl (List.mem_cons_of_mem _ List.mem_cons_self)) (zml1 (Or.inl (List.mem_cons_of_mem _ (List.mem_cons_of_mem _ List.mem_cons_self))) zml0)))⟩
        show ZW g X 5 16 G 44 [(0, .ref x), (1, .int (nI which.toNatClampNeg)), (2, .int (nI house.toNatClampNeg)), (3, .int (-1))] [.ref s41]
        refine z_astore hX dX0_mustSell_44 46 rfl (Nat.le_of_ble_eq_true rfl) rfl (L' := [(0, .ref x), (1, .int (nI which.toNatClampNeg)), (2, .int (nI house.toNatClampNeg)), (3, .int (-1)), (4, .ref s41)]) rfl ?_
        refine z_iload_n hX dX0_mustSell_46 47 rfl (i := 3) rfl 3 rfl ?_
        refine z_iconst hX dX0_mustSell_47 48 rfl zki_m1 ?_
        refine z_icmp_ne hX dX0_mustSell_48 51 rfl (tgt := 64) (by decide) (fun c4 => ?_) (fun c4 => ?_)
        · exact absurd rfl c4
        refine z_aload_n hX dX0_mustSell_51 52 rfl (i := 0) rfl 0 rfl ?_
        refine z_getf hX fX0_10 hM.1.o dX0_mustSell_52 55 rfl (x := .ref t) rfl ?_
        refine z_aload hX dX0_mustSell_55 57 rfl 4 rfl ?_
        refine z_iload_n hX dX0_mustSell_57 58 rfl (i := 2) rfl 2 rfl ?_
        obtain ⟨fs9, ho9⟩ := hM.2.1.o
        refine z_callV hX cwX0_226 (met_x1_mustSellW hG hM.2.1 hM.2.2.1 hN ne_t_s41_0 ne_t_s41_1 ne_t_s41_2 house.toNatClampNeg (by omega)) ho9 rfl rfl dX0_mustSell_58 61 rfl rfl rfl (Nat.le_of_ble_eq_true rfl) (by decide) ⟨by omega, by omega⟩ (fun r G hP => ?_)
        obtain ⟨rfl, hP⟩ := hP
        have hM : zFx G xq x t dq tp bg bl tpd ∧ zTw g G q t B N tk cp sh fc (x1_state_gn N tk cp sh fc gn A H K (nI which.toNatClampNeg)) ∧ zSt g G (ns41, 0) s41 bs41 (x1_state_res_sold N tk cp sh fc A H K (nI which.toNatClampNeg)) (x1_state_res_fallen N tk cp sh fc A H K (nI which.toNatClampNeg)) ∧ zFrK [(q, 0), (q, 1), (q, 2)] G0 G := ⟨hM.1.kp (hP.2.2.kp (zni1 ne_x_t_00 (zni1 ne_x_t_01 (zni1 ne_x_t_02 zni0)))), hP.1, hP.2.1, hM.2.2.2.stepL hP.2.2 (zml1 (Or.inl List.mem_cons_self) (zml1 (Or.inl (List.mem_cons_of_mem _ List.mem_cons_self)) (zml1 (Or.inl (List.mem_cons_of_mem _ (List.mem_cons_of_mem _ List.mem_cons_self))) zml0)))⟩
        show ZW g X 5 16 G 61 [(0, .ref x), (1, .int (nI which.toNatClampNeg)), (2, .int (nI house.toNatClampNeg)), (3, .int (-1)), (4, .ref s41)] [.int (x1_mustSellW N tk sh (x1_state_res_sold N tk cp sh fc A H K (nI which.toNatClampNeg)) (x1_state_res_fallen N tk cp sh fc A H K (nI which.toNatClampNeg)) A H K house.toNatClampNeg)]
        refine z_goto hX dX0_mustSell_61 (tgt := 76) (by decide) ?_
        have hM : zFx G xq x t dq tp bg bl tpd ∧ zTw g G q t B N tk cp sh fc (x1_state_gn N tk cp sh fc gn A H K (nI which.toNatClampNeg)) ∧ zFrK [(q, 0), (q, 1), (q, 2)] G0 G := ⟨hM.1, hM.2.1, hM.2.2.2⟩
        exact z_iret hX hQ (by omega) (by omega) rfl dX0_mustSell_76 ⟨(by first | (simp only [if_pos c1, if_pos c2, if_pos c3] <;> rfl; done) | grind), (by first | (simpa only [if_pos c1, if_pos c2, if_pos c3] using hM) | ((try simp only [if_pos c1]); (try simp only [if_pos c2]); (try simp only [if_pos c3]); exact hM))⟩
      ·
        refine z_aload_n hX dX0_mustSell_23 24 rfl (i := 0) rfl 0 rfl ?_
        refine z_getf hX fX0_10 hM.1.o dX0_mustSell_24 27 rfl (x := .ref t) rfl ?_
        refine z_iload_n hX dX0_mustSell_27 28 rfl (i := 3) rfl 3 rfl ?_
        obtain ⟨opr, os1, os2, of1, of2, ob1, ob2, hT9, h19, h29⟩ := id hM.2.1
        refine z_callVp hX cwX0_82 (w := .int (if zin asset A then 1 else 0 : Int32)) (met_X1_isAsset hG hT9 hN asset) hT9.o rfl rfl dX0_mustSell_28 31 rfl rfl rfl (Nat.le_of_ble_eq_true rfl) (by decide) ⟨Nat.zero_le _, Nat.zero_le _⟩ ?_
        refine z_if_neP hX (zin asset A) dX0_mustSell_31 34 rfl (tgt := 36) (by decide) (fun c5 => ?_) (fun c5 => ?_)
        ·
          have e_asset := zin_eq c5
          have l_asset := zin_lt c5
          refine z_eqL (L' := [(0, .ref x), (1, .int (nI which.toNatClampNeg)), (2, .int (nI house.toNatClampNeg)), (3, .int (nI asset.toNatClampNeg))]) (st' := []) (by rw [← e_asset]) (by first | rfl | rw [← e_asset]) ?_
          refine z_aload_n hX dX0_mustSell_36 37 rfl (i := 0) rfl 0 rfl ?_
          refine z_getf hX fX0_10 hM.1.o dX0_mustSell_37 40 rfl (x := .ref t) rfl ?_
          refine z_iload_n hX dX0_mustSell_40 41 rfl (i := 1) rfl 1 rfl ?_
          obtain ⟨fs9, ho9⟩ := hM.2.1.o
          refine z_callV hX cwX0_202 (met_X1_state hG hM.2.1 hN (nI which.toNatClampNeg)) ho9 rfl rfl dX0_mustSell_41 44 rfl rfl rfl (Nat.le_of_ble_eq_true rfl) (by decide) ⟨by omega, by omega⟩ (fun r G hP => ?_)
          obtain ⟨ns41, s41, bs41, hzs41, rfl, hP⟩ := hP
          have ne_x_s41 : (xq, 0) ≠ (ns41, 0) := hzs41.neT hM.1.o
          obtain ⟨fs9, ho9⟩ := hM.2.1.o
          have ne_t_s41_0 : (q, 0) ≠ (ns41, 0) := hzs41.neT ho9
          have ne_t_s41_1 : (q, 1) ≠ (ns41, 0) := hzs41.neT ho9
          have ne_t_s41_2 : (q, 2) ≠ (ns41, 0) := hzs41.neT ho9
          have nq_t_s41 : q ≠ ns41 := hzs41 _ _ _ ho9
          have fn_s41 : zFresh G0 ns41 := hzs41.of' hM.2.2 (zfm1 nq_t_s41 (zfm1 nq_t_s41 (zfm1 nq_t_s41 zfm0)))
          have hM : zFx G xq x t dq tp bg bl tpd ∧ zTw g G q t B N tk cp sh fc (x1_state_gn N tk cp sh fc gn A H K (nI which.toNatClampNeg)) ∧ zSt g G (ns41, 0) s41 bs41 (x1_state_res_sold N tk cp sh fc A H K (nI which.toNatClampNeg)) (x1_state_res_fallen N tk cp sh fc A H K (nI which.toNatClampNeg)) ∧ zFrK [(q, 0), (q, 1), (q, 2)] G0 G := ⟨hM.1.kp (hP.2.2.kp (zni1 ne_x_t_00 (zni1 ne_x_t_01 (zni1 ne_x_t_02 zni0)))), hP.1, hP.2.1, hM.2.2.stepL hP.2.2 (zml1 (Or.inl List.mem_cons_self) (zml1 (Or.inl (List.mem_cons_of_mem _ List.mem_cons_self)) (zml1 (Or.inl (List.mem_cons_of_mem _ (List.mem_cons_of_mem _ List.mem_cons_self))) zml0)))⟩
          show ZW g X 5 16 G 44 [(0, .ref x), (1, .int (nI which.toNatClampNeg)), (2, .int (nI house.toNatClampNeg)), (3, .int (nI asset.toNatClampNeg))] [.ref s41]
          refine z_astore hX dX0_mustSell_44 46 rfl (Nat.le_of_ble_eq_true rfl) rfl (L' := [(0, .ref x), (1, .int (nI which.toNatClampNeg)), (2, .int (nI house.toNatClampNeg)), (3, .int (nI asset.toNatClampNeg)), (4, .ref s41)]) rfl ?_
          refine z_iload_n hX dX0_mustSell_46 47 rfl (i := 3) rfl 3 rfl ?_
          refine z_iconst hX dX0_mustSell_47 48 rfl zki_m1 ?_
          refine z_icmp_ne hX dX0_mustSell_48 51 rfl (tgt := 64) (by decide) (fun c6 => ?_) (fun c6 => ?_)
          rotate_left 1
          · exact absurd c6 (nI_nm1 (by omega))
          refine z_aload_n hX dX0_mustSell_64 65 rfl (i := 0) rfl 0 rfl ?_
          refine z_getf hX fX0_10 hM.1.o dX0_mustSell_65 68 rfl (x := .ref t) rfl ?_
          refine z_aload hX dX0_mustSell_68 70 rfl 4 rfl ?_
          refine z_iload_n hX dX0_mustSell_70 71 rfl (i := 2) rfl 2 rfl ?_
          obtain ⟨fs9, ho9⟩ := hM.2.1.o
          refine z_callV hX cwX0_229 (met_X1_sells_2 hG hM.2.1 hM.2.2.1 hN ne_t_s41_0 ne_t_s41_1 ne_t_s41_2 house.toNatClampNeg (by omega)) ho9 rfl rfl dX0_mustSell_71 74 rfl rfl rfl (Nat.le_of_ble_eq_true rfl) (by decide) ⟨by omega, by omega⟩ (fun r G hP => ?_)
          obtain ⟨ns71, s71, hzs71, rfl, hP⟩ := hP
          have ne_x_s71 : (xq, 0) ≠ (ns71, 0) := hzs71.neT hM.1.o
          obtain ⟨fs9, ho9⟩ := hM.2.1.o
          have ne_t_s71_0 : (q, 0) ≠ (ns71, 0) := hzs71.neT ho9
          have ne_t_s71_1 : (q, 1) ≠ (ns71, 0) := hzs71.neT ho9
          have ne_t_s71_2 : (q, 2) ≠ (ns71, 0) := hzs71.neT ho9
          have nq_t_s71 : q ≠ ns71 := hzs71 _ _ _ ho9
          have ne_s41_s71 : (ns41, 0) ≠ (ns71, 0) := hzs71.neS hM.2.2.1.o
          have fn_s71 : zFresh G0 ns71 := hzs71.of' hM.2.2.2 (zfm1 nq_t_s71 (zfm1 nq_t_s71 (zfm1 nq_t_s71 zfm0)))
          have hM : zFx G xq x t dq tp bg bl tpd ∧ zTw g G q t B N tk cp sh fc (x1_state_gn N tk cp sh fc gn A H K (nI which.toNatClampNeg)) ∧ zSt g G (ns41, 0) s41 bs41 (x1_state_res_sold N tk cp sh fc A H K (nI which.toNatClampNeg)) (x1_state_res_fallen N tk cp sh fc A H K (nI which.toNatClampNeg)) ∧ zAr G s71 (ns71, 0) (zca g 0) 4 (x1_sells_2_res_f N tk sh (x1_state_res_sold N tk cp sh fc A H K (nI which.toNatClampNeg)) (x1_state_res_fallen N tk cp sh fc A H K (nI which.toNatClampNeg)) A H K house.toNatClampNeg) ∧ zFrK [(q, 0), (q, 1), (q, 2)] G0 G := ⟨hM.1.kp (hP.2.2.2.kp (zni1 ne_x_t_00 (zni1 ne_x_t_01 (zni1 ne_x_t_02 zni0)))), hP.1, hP.2.1, hP.2.2.1, hM.2.2.2.stepL hP.2.2.2 (zml1 (Or.inl List.mem_cons_self) (zml1 (Or.inl (List.mem_cons_of_mem _ List.mem_cons_self)) (zml1 (Or.inl (List.mem_cons_of_mem _ (List.mem_cons_of_mem _ List.mem_cons_self))) zml0)))⟩
          show ZW g X 6 20 G 74 [(0, .ref x), (1, .int (nI which.toNatClampNeg)), (2, .int (nI house.toNatClampNeg)), (3, .int (nI asset.toNatClampNeg)), (4, .ref s41)] [.ref s71]
          refine z_iload_n hX dX0_mustSell_74 75 rfl (i := 3) rfl 3 rfl ?_
          refine z_ialdF hX hM.2.2.2.1 (j := asset.toNatClampNeg) (by omega) (by decide) dX0_mustSell_75 76 rfl (w := (x1_sells_2_res_f N tk sh (x1_state_res_sold N tk cp sh fc A H K (nI which.toNatClampNeg)) (x1_state_res_fallen N tk cp sh fc A H K (nI which.toNatClampNeg)) A H K house.toNatClampNeg) asset.toNatClampNeg) rfl ?_
          have hM : zFx G xq x t dq tp bg bl tpd ∧ zTw g G q t B N tk cp sh fc (x1_state_gn N tk cp sh fc gn A H K (nI which.toNatClampNeg)) ∧ zFrK [(q, 0), (q, 1), (q, 2)] G0 G := ⟨hM.1, hM.2.1, hM.2.2.2.2⟩
          exact z_iret hX hQ (by omega) (by omega) rfl dX0_mustSell_76 ⟨(by first | (simp only [if_pos c1, if_pos c2, if_neg c3, if_pos c5] <;> rfl; done) | grind), (by first | (simpa only [if_pos c1, if_pos c2, if_neg c3, if_pos c5] using hM) | ((try simp only [if_pos c1]); (try simp only [if_pos c2]); (try simp only [if_neg c3]); (try simp only [if_pos c5]); exact hM))⟩
        ·
          refine z_iconst hX dX0_mustSell_34 35 rfl zki_m1 ?_
          exact z_iret hX hQ (by omega) (by omega) rfl dX0_mustSell_35 ⟨(by first | (simp only [if_pos c1, if_pos c2, if_neg c3, if_neg c5] <;> rfl; done) | grind), (by first | (simpa only [if_pos c1, if_pos c2, if_neg c3, if_neg c5] using hM) | ((try simp only [if_pos c1]); (try simp only [if_pos c2]); (try simp only [if_neg c3]); (try simp only [if_neg c5]); exact hM))⟩
noncomputable def x0_index (N : Nat → Int32) (tk : Nat → Int32) (cp : Nat → Int32) (sh : Nat → Int32) (fc : Int32) (A : Nat) (H : Nat) (K : Nat → Nat) (which : Int32) : Int32 := (if zin which 4 then (x1_index N tk sh (x1_state_res_sold N tk cp sh fc A H K (nI which.toNatClampNeg)) A K).toInt32 else (-1) : Int32)
noncomputable def x0_index_gn (N : Nat → Int32) (tk : Nat → Int32) (cp : Nat → Int32) (sh : Nat → Int32) (fc : Int32) (gn : Int32) (A : Nat) (H : Nat) (K : Nat → Nat) (which : Int32) : Int32 := if zin which 4 then x1_state_gn N tk cp sh fc gn A H K (nI which.toNatClampNeg) else gn
set_option maxHeartbeats 4000000 in
theorem met_X0_index {g : Zg} (hG : zG g) {G0 : zHG} {xq x dq tp : Nat} {bg : Value} {bl tpd : Int32} {q t : Nat} {B : Nat → Nat → Nat} {N tk cp sh : Nat → Int32} {fc gn : Int32} (hx : zFx G0 xq x t dq tp bg bl tpd) (ht : zTw g G0 q t B N tk cp sh fc gn) {A H : Nat} {K : Nat → Nat} (hN : zWf N A H K) (ne_x_t_00 : (xq, 0) ≠ (q, 0)) (ne_x_t_01 : (xq, 0) ≠ (q, 1)) (ne_x_t_02 : (xq, 0) ≠ (q, 2)) (which : Int32) (af0 : (zin which 4) → vf_n32 (FP.fdiv (x1_index_l16 N tk sh (x1_state_res_sold N tk cp sh fc A H K (nI which.toNatClampNeg)) K FP.fconst0 A) (FP.i2f (x1_heldAll N A)))) (af1 : (zin which 4) → ∀ qj2 : Nat, qj2 < A → ¬ ((x1_calmPrice N sh K qj2) = 0) → vf_n32 (FP.fdiv (FP.i2f (x1_price N tk sh (x1_state_res_sold N tk cp sh fc A H K (nI which.toNatClampNeg)) K qj2)) (FP.i2f (x1_calmPrice N sh K qj2)))) (af2 : (zin which 4) → ∀ qj2 : Nat, qj2 < A → vf_n32 (FP.fmul (x1_ratio N tk sh (x1_state_res_sold N tk cp sh fc A H K (nI which.toNatClampNeg)) K qj2) (FP.i2f (x1_held N qj2)))) (af3 : (zin which 4) → ∀ qj2 : Nat, qj2 < A → vf_n32 (FP.fadd (x1_index_l16 N tk sh (x1_state_res_sold N tk cp sh fc A H K (nI which.toNatClampNeg)) K FP.fconst0 qj2) (FP.fmul (x1_ratio N tk sh (x1_state_res_sold N tk cp sh fc A H K (nI which.toNatClampNeg)) K qj2) (FP.i2f (x1_held N qj2))))) (af4 : (zin which 4) → FP.fcmp (x1_index N tk sh (x1_state_res_sold N tk cp sh fc A H K (nI which.toNatClampNeg)) A K) (x1_index N tk sh (x1_state_res_sold N tk cp sh fc A H K (nI which.toNatClampNeg)) A K) = some .eq) : ZM g yX0_index cX0_index 2 (some FieldType.int) 10 5 16 [.ref x, .int which] G0 (fun r G' => r = some (.int (x0_index N tk cp sh fc A H K which)) ∧ (zFx G' xq x t dq tp bg bl tpd ∧ zTw g G' q t B N tk cp sh fc (x0_index_gn N tk cp sh fc gn A H K which) ∧ zFrK [(q, 0), (q, 1), (q, 2)] G0 G')) := by
  unfold x0_index x0_index_gn
  have hN2 := hN.2.1
  have hN4 := hN.2.2.2.1
  refine ZM_mk hG (by decide) (Nat.le_of_ble_eq_true rfl) ?_
  intro X hX hname hQ
  obtain ⟨G, hGe⟩ : ∃ z, z = G0 := ⟨_, rfl⟩
  have hM : zFx G xq x t dq tp bg bl tpd ∧ zTw g G q t B N tk cp sh fc gn ∧ zFrK [(q, 0), (q, 1), (q, 2)] G0 G := by rw [hGe]; exact ⟨hx, ht, zFrK.rf⟩
  show ZW g X 0 0 G0 0 [(0, .ref x), (1, .int which)] []
  rw [← hGe]
  refine z_iload_n hX dX0_index_0 1 rfl (i := 1) rfl 1 rfl ?_
  refine z_callSp hX cwX0_197 (w := .int (if zin which 4 then 1 else 0 : Int32)) (met_X0_isState hG which) dX0_index_1 4 rfl rfl rfl (Nat.le_of_ble_eq_true rfl) (by decide) ⟨Nat.zero_le _, Nat.zero_le _⟩ ?_
  have J2 : ∀ G : zHG, zFx G xq x t dq tp bg bl tpd ∧ zTw g G q t B N tk cp sh fc (if zin which 4 then x1_state_gn N tk cp sh fc gn A H K (nI which.toNatClampNeg) else gn) ∧ zFrK [(q, 0), (q, 1), (q, 2)] G0 G → ZW g X 5 16 G 29 [(0, .ref x)] [.int (if zin which 4 then (x1_index N tk sh (x1_state_res_sold N tk cp sh fc A H K (nI which.toNatClampNeg)) A K).toInt32 else (-1) : Int32)] := by
    intro G hM
    exact z_iret hX hQ (by omega) (by omega) rfl dX0_index_29 ⟨rfl, hM⟩
  refine z_if_eqP hX (zin which 4) dX0_index_4 7 rfl (tgt := 28) (by decide) (fun c1 => ?_) (fun c1 => ?_)
  ·
    refine z_iconst hX dX0_index_28 29 rfl zki_m1 ?_
    refine z_sub [0] rfl ?_
    refine z_widen (u' := 5) (v' := 16) (by omega) (by omega) ?_
    exact z_eqL rfl (by first | (simp only [if_neg c1] <;> rfl; done) | grind) (J2 _ (by first | (simpa only [if_neg c1] using hM) | ((try simp only [if_neg c1]); exact hM)))
  ·
    have e_which := zin_eq c1
    have l_which := zin_lt c1
    refine z_eqL (L' := [(0, .ref x), (1, .int (nI which.toNatClampNeg))]) (st' := []) (by rw [← e_which]) (by first | rfl | rw [← e_which]) ?_
    refine z_aload_n hX dX0_index_7 8 rfl (i := 0) rfl 0 rfl ?_
    refine z_getf hX fX0_10 hM.1.o dX0_index_8 11 rfl (x := .ref t) rfl ?_
    refine z_aload_n hX dX0_index_11 12 rfl (i := 0) rfl 0 rfl ?_
    refine z_getf hX fX0_10 hM.1.o dX0_index_12 15 rfl (x := .ref t) rfl ?_
    refine z_iload_n hX dX0_index_15 16 rfl (i := 1) rfl 1 rfl ?_
    obtain ⟨fs9, ho9⟩ := hM.2.1.o
    refine z_callV hX cwX0_202 (met_X1_state hG hM.2.1 hN (nI which.toNatClampNeg)) ho9 rfl rfl dX0_index_16 19 rfl rfl rfl (Nat.le_of_ble_eq_true rfl) (by decide) ⟨by omega, by omega⟩ (fun r G hP => ?_)
    obtain ⟨ns16, s16, bs16, hzs16, rfl, hP⟩ := hP
    have ne_x_s16 : (xq, 0) ≠ (ns16, 0) := hzs16.neT hM.1.o
    obtain ⟨fs9, ho9⟩ := hM.2.1.o
    have ne_t_s16_0 : (q, 0) ≠ (ns16, 0) := hzs16.neT ho9
    have ne_t_s16_1 : (q, 1) ≠ (ns16, 0) := hzs16.neT ho9
    have ne_t_s16_2 : (q, 2) ≠ (ns16, 0) := hzs16.neT ho9
    have nq_t_s16 : q ≠ ns16 := hzs16 _ _ _ ho9
    have fn_s16 : zFresh G0 ns16 := hzs16.of' hM.2.2 (zfm1 nq_t_s16 (zfm1 nq_t_s16 (zfm1 nq_t_s16 zfm0)))
    have hM : zFx G xq x t dq tp bg bl tpd ∧ zTw g G q t B N tk cp sh fc (x1_state_gn N tk cp sh fc gn A H K (nI which.toNatClampNeg)) ∧ zSt g G (ns16, 0) s16 bs16 (x1_state_res_sold N tk cp sh fc A H K (nI which.toNatClampNeg)) (x1_state_res_fallen N tk cp sh fc A H K (nI which.toNatClampNeg)) ∧ zFrK [(q, 0), (q, 1), (q, 2)] G0 G := ⟨hM.1.kp (hP.2.2.kp (zni1 ne_x_t_00 (zni1 ne_x_t_01 (zni1 ne_x_t_02 zni0)))), hP.1, hP.2.1, hM.2.2.stepL hP.2.2 (zml1 (Or.inl List.mem_cons_self) (zml1 (Or.inl (List.mem_cons_of_mem _ List.mem_cons_self)) (zml1 (Or.inl (List.mem_cons_of_mem _ (List.mem_cons_of_mem _ List.mem_cons_self))) zml0)))⟩
    show ZW g X 5 16 G 19 [(0, .ref x), (1, .int (nI which.toNatClampNeg))] [.ref s16, .ref t]
    obtain ⟨opr, os1, os2, of1, of2, ob1, ob2, hT9, h19, h29⟩ := id hM.2.1
    refine z_callVp hX cwX0_269 (w := .float (x1_index N tk sh (x1_state_res_sold N tk cp sh fc A H K (nI which.toNatClampNeg)) A K)) (met_X1_index hG hT9 hM.2.2.1 hN (af0 c1) (af1 c1) (af2 c1) (af3 c1)) hT9.o rfl rfl dX0_index_19 22 rfl rfl rfl (Nat.le_of_ble_eq_true rfl) (by decide) ⟨by omega, by omega⟩ ?_
    refine z_callSp hX cwX0_273 (w := .int ((x1_index N tk sh (x1_state_res_sold N tk cp sh fc A H K (nI which.toNatClampNeg)) A K).toInt32)) (met_J16_floatToIntBits hG (x1_index N tk sh (x1_state_res_sold N tk cp sh fc A H K (nI which.toNatClampNeg)) A K) (af4 c1)) dX0_index_22 25 rfl rfl rfl (Nat.le_of_ble_eq_true rfl) (by decide) ⟨by omega, by omega⟩ ?_
    refine z_goto hX dX0_index_25 (tgt := 29) (by decide) ?_
    have hM : zFx G xq x t dq tp bg bl tpd ∧ zTw g G q t B N tk cp sh fc (x1_state_gn N tk cp sh fc gn A H K (nI which.toNatClampNeg)) ∧ zFrK [(q, 0), (q, 1), (q, 2)] G0 G := ⟨hM.1, hM.2.1, hM.2.2.2⟩
    refine z_sub [0] rfl ?_
    exact z_eqL rfl (by first | (simp only [if_pos c1] <;> rfl; done) | grind) (J2 _ (by first | (simpa only [if_pos c1] using hM) | ((try simp only [if_pos c1]); exact hM)))
noncomputable def x0_ratio (N : Nat → Int32) (tk : Nat → Int32) (cp : Nat → Int32) (sh : Nat → Int32) (fc : Int32) (A : Nat) (H : Nat) (K : Nat → Nat) (which : Int32) (asset : Int32) : Int32 := (if zin which 4 then (if zin asset A then (x1_ratio N tk sh (x1_state_res_sold N tk cp sh fc A H K (nI which.toNatClampNeg)) K asset.toNatClampNeg).toInt32 else (-1) : Int32) else (-1) : Int32)
noncomputable def x0_ratio_gn (N : Nat → Int32) (tk : Nat → Int32) (cp : Nat → Int32) (sh : Nat → Int32) (fc : Int32) (gn : Int32) (A : Nat) (H : Nat) (K : Nat → Nat) (which : Int32) (asset : Int32) : Int32 := if zin which 4 then if zin asset A then x1_state_gn N tk cp sh fc gn A H K (nI which.toNatClampNeg) else gn else gn
set_option maxHeartbeats 4000000 in
theorem met_X0_ratio {g : Zg} (hG : zG g) {G0 : zHG} {xq x dq tp : Nat} {bg : Value} {bl tpd : Int32} {q t : Nat} {B : Nat → Nat → Nat} {N tk cp sh : Nat → Int32} {fc gn : Int32} (hx : zFx G0 xq x t dq tp bg bl tpd) (ht : zTw g G0 q t B N tk cp sh fc gn) {A H : Nat} {K : Nat → Nat} (hN : zWf N A H K) (ne_x_t_00 : (xq, 0) ≠ (q, 0)) (ne_x_t_01 : (xq, 0) ≠ (q, 1)) (ne_x_t_02 : (xq, 0) ≠ (q, 2)) (which : Int32) (asset : Int32) (af0 : (zin which 4) → (zin asset A) → ¬ ((x1_calmPrice N sh K asset.toNatClampNeg) = 0) → vf_n32 (FP.fdiv (FP.i2f (x1_price N tk sh (x1_state_res_sold N tk cp sh fc A H K (nI which.toNatClampNeg)) K asset.toNatClampNeg)) (FP.i2f (x1_calmPrice N sh K asset.toNatClampNeg)))) (af1 : (zin which 4) → (zin asset A) → FP.fcmp (x1_ratio N tk sh (x1_state_res_sold N tk cp sh fc A H K (nI which.toNatClampNeg)) K asset.toNatClampNeg) (x1_ratio N tk sh (x1_state_res_sold N tk cp sh fc A H K (nI which.toNatClampNeg)) K asset.toNatClampNeg) = some .eq) : ZM g yX0_ratio cX0_ratio 3 (some FieldType.int) 10 5 16 [.ref x, .int which, .int asset] G0 (fun r G' => r = some (.int (x0_ratio N tk cp sh fc A H K which asset)) ∧ (zFx G' xq x t dq tp bg bl tpd ∧ zTw g G' q t B N tk cp sh fc (x0_ratio_gn N tk cp sh fc gn A H K which asset) ∧ zFrK [(q, 0), (q, 1), (q, 2)] G0 G')) := by
  unfold x0_ratio x0_ratio_gn
  have hN2 := hN.2.1
  have hN4 := hN.2.2.2.1
  refine ZM_mk hG (by decide) (Nat.le_of_ble_eq_true rfl) ?_
  intro X hX hname hQ
  obtain ⟨G, hGe⟩ : ∃ z, z = G0 := ⟨_, rfl⟩
  have hM : zFx G xq x t dq tp bg bl tpd ∧ zTw g G q t B N tk cp sh fc gn ∧ zFrK [(q, 0), (q, 1), (q, 2)] G0 G := by rw [hGe]; exact ⟨hx, ht, zFrK.rf⟩
  show ZW g X 0 0 G0 0 [(0, .ref x), (1, .int which), (2, .int asset)] []
  rw [← hGe]
  refine z_iload_n hX dX0_ratio_0 1 rfl (i := 1) rfl 1 rfl ?_
  refine z_callSp hX cwX0_197 (w := .int (if zin which 4 then 1 else 0 : Int32)) (met_X0_isState hG which) dX0_ratio_1 4 rfl rfl rfl (Nat.le_of_ble_eq_true rfl) (by decide) ⟨Nat.zero_le _, Nat.zero_le _⟩ ?_
  have J2 : ∀ G : zHG, zFx G xq x t dq tp bg bl tpd ∧ zTw g G q t B N tk cp sh fc (if zin which 4 then if zin asset A then x1_state_gn N tk cp sh fc gn A H K (nI which.toNatClampNeg) else gn else gn) ∧ zFrK [(q, 0), (q, 1), (q, 2)] G0 G → ZW g X 5 16 G 41 [(0, .ref x)] [.int (if zin which 4 then (if zin asset A then (x1_ratio N tk sh (x1_state_res_sold N tk cp sh fc A H K (nI which.toNatClampNeg)) K asset.toNatClampNeg).toInt32 else (-1) : Int32) else (-1) : Int32)] := by
    intro G hM
    exact z_iret hX hQ (by omega) (by omega) rfl dX0_ratio_41 ⟨rfl, hM⟩
  refine z_if_eqP hX (zin which 4) dX0_ratio_4 7 rfl (tgt := 40) (by decide) (fun c1 => ?_) (fun c1 => ?_)
  ·
    refine z_iconst hX dX0_ratio_40 41 rfl zki_m1 ?_
    refine z_sub [0] rfl ?_
    refine z_widen (u' := 5) (v' := 16) (by omega) (by omega) ?_
    exact z_eqL rfl (by first | (simp only [if_neg c1] <;> rfl; done) | grind) (J2 _ (by first | (simpa only [if_neg c1] using hM) | ((try simp only [if_neg c1]); exact hM)))
  ·
    have e_which := zin_eq c1
    have l_which := zin_lt c1
    refine z_eqL (L' := [(0, .ref x), (1, .int (nI which.toNatClampNeg)), (2, .int asset)]) (st' := []) (by rw [← e_which]) (by first | rfl | rw [← e_which]) ?_
    refine z_aload_n hX dX0_ratio_7 8 rfl (i := 0) rfl 0 rfl ?_
    refine z_getf hX fX0_10 hM.1.o dX0_ratio_8 11 rfl (x := .ref t) rfl ?_
    refine z_iload_n hX dX0_ratio_11 12 rfl (i := 2) rfl 2 rfl ?_
    obtain ⟨opr, os1, os2, of1, of2, ob1, ob2, hT9, h19, h29⟩ := id hM.2.1
    refine z_callVp hX cwX0_82 (w := .int (if zin asset A then 1 else 0 : Int32)) (met_X1_isAsset hG hT9 hN asset) hT9.o rfl rfl dX0_ratio_12 15 rfl rfl rfl (Nat.le_of_ble_eq_true rfl) (by decide) ⟨Nat.zero_le _, Nat.zero_le _⟩ ?_
    refine z_if_eqP hX (zin asset A) dX0_ratio_15 18 rfl (tgt := 40) (by decide) (fun c3 => ?_) (fun c3 => ?_)
    ·
      refine z_iconst hX dX0_ratio_40 41 rfl zki_m1 ?_
      refine z_sub [0] rfl ?_
      refine z_widen (u' := 5) (v' := 16) (by omega) (by omega) ?_
      exact z_eqL rfl (by first | (simp only [if_pos c1, if_neg c3] <;> rfl; done) | grind) (J2 _ (by first | (simpa only [if_pos c1, if_neg c3] using hM) | ((try simp only [if_pos c1]); (try simp only [if_neg c3]); exact hM)))
    ·
      have e_asset := zin_eq c3
      have l_asset := zin_lt c3
      refine z_eqL (L' := [(0, .ref x), (1, .int (nI which.toNatClampNeg)), (2, .int (nI asset.toNatClampNeg))]) (st' := []) (by rw [← e_asset]) (by first | rfl | rw [← e_asset]) ?_
      refine z_aload_n hX dX0_ratio_18 19 rfl (i := 0) rfl 0 rfl ?_
      refine z_getf hX fX0_10 hM.1.o dX0_ratio_19 22 rfl (x := .ref t) rfl ?_
      refine z_aload_n hX dX0_ratio_22 23 rfl (i := 0) rfl 0 rfl ?_
      refine z_getf hX fX0_10 hM.1.o dX0_ratio_23 26 rfl (x := .ref t) rfl ?_
      refine z_iload_n hX dX0_ratio_26 27 rfl (i := 1) rfl 1 rfl ?_
      obtain ⟨fs9, ho9⟩ := hM.2.1.o
      refine z_callV hX cwX0_202 (met_X1_state hG hM.2.1 hN (nI which.toNatClampNeg)) ho9 rfl rfl dX0_ratio_27 30 rfl rfl rfl (Nat.le_of_ble_eq_true rfl) (by decide) ⟨by omega, by omega⟩ (fun r G hP => ?_)
      obtain ⟨ns27, s27, bs27, hzs27, rfl, hP⟩ := hP
      have ne_x_s27 : (xq, 0) ≠ (ns27, 0) := hzs27.neT hM.1.o
      obtain ⟨fs9, ho9⟩ := hM.2.1.o
      have ne_t_s27_0 : (q, 0) ≠ (ns27, 0) := hzs27.neT ho9
      have ne_t_s27_1 : (q, 1) ≠ (ns27, 0) := hzs27.neT ho9
      have ne_t_s27_2 : (q, 2) ≠ (ns27, 0) := hzs27.neT ho9
      have nq_t_s27 : q ≠ ns27 := hzs27 _ _ _ ho9
      have fn_s27 : zFresh G0 ns27 := hzs27.of' hM.2.2 (zfm1 nq_t_s27 (zfm1 nq_t_s27 (zfm1 nq_t_s27 zfm0)))
      have hM : zFx G xq x t dq tp bg bl tpd ∧ zTw g G q t B N tk cp sh fc (x1_state_gn N tk cp sh fc gn A H K (nI which.toNatClampNeg)) ∧ zSt g G (ns27, 0) s27 bs27 (x1_state_res_sold N tk cp sh fc A H K (nI which.toNatClampNeg)) (x1_state_res_fallen N tk cp sh fc A H K (nI which.toNatClampNeg)) ∧ zFrK [(q, 0), (q, 1), (q, 2)] G0 G := ⟨hM.1.kp (hP.2.2.kp (zni1 ne_x_t_00 (zni1 ne_x_t_01 (zni1 ne_x_t_02 zni0)))), hP.1, hP.2.1, hM.2.2.stepL hP.2.2 (zml1 (Or.inl List.mem_cons_self) (zml1 (Or.inl (List.mem_cons_of_mem _ List.mem_cons_self)) (zml1 (Or.inl (List.mem_cons_of_mem _ (List.mem_cons_of_mem _ List.mem_cons_self))) zml0)))⟩
      show ZW g X 5 16 G 30 [(0, .ref x), (1, .int (nI which.toNatClampNeg)), (2, .int (nI asset.toNatClampNeg))] [.ref s27, .ref t]
      refine z_iload_n hX dX0_ratio_30 31 rfl (i := 2) rfl 2 rfl ?_
      obtain ⟨opr, os1, os2, of1, of2, ob1, ob2, hT9, h19, h29⟩ := id hM.2.1
      refine z_callVp hX cwX0_282 (w := .float (x1_ratio N tk sh (x1_state_res_sold N tk cp sh fc A H K (nI which.toNatClampNeg)) K asset.toNatClampNeg)) (met_X1_ratio hG hT9 hM.2.2.1 hN asset.toNatClampNeg (by omega) (af0 c1 c3)) hT9.o rfl rfl dX0_ratio_31 34 rfl rfl rfl (Nat.le_of_ble_eq_true rfl) (by decide) ⟨by omega, by omega⟩ ?_
      refine z_callSp hX cwX0_273 (w := .int ((x1_ratio N tk sh (x1_state_res_sold N tk cp sh fc A H K (nI which.toNatClampNeg)) K asset.toNatClampNeg).toInt32)) (met_J16_floatToIntBits hG (x1_ratio N tk sh (x1_state_res_sold N tk cp sh fc A H K (nI which.toNatClampNeg)) K asset.toNatClampNeg) (af1 c1 c3)) dX0_ratio_34 37 rfl rfl rfl (Nat.le_of_ble_eq_true rfl) (by decide) ⟨by omega, by omega⟩ ?_
      refine z_goto hX dX0_ratio_37 (tgt := 41) (by decide) ?_
      have hM : zFx G xq x t dq tp bg bl tpd ∧ zTw g G q t B N tk cp sh fc (x1_state_gn N tk cp sh fc gn A H K (nI which.toNatClampNeg)) ∧ zFrK [(q, 0), (q, 1), (q, 2)] G0 G := ⟨hM.1, hM.2.1, hM.2.2.2⟩
      refine z_sub [0] rfl ?_
      exact z_eqL rfl (by first | (simp only [if_pos c1, if_pos c3] <;> rfl; done) | grind) (J2 _ (by first | (simpa only [if_pos c1, if_pos c3] using hM) | ((try simp only [if_pos c1]); (try simp only [if_pos c3]); exact hM)))
