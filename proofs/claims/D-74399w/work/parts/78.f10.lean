set_option maxRecDepth 100000
theorem met_X1_nextW {g : Zg} (hG : zG g) {G0 : zHG} {q t : Nat} {B : Nat → Nat → Nat} {N tk cp sh : Nat → Int32} {fc gn : Int32} {ks : Nat × Nat} {s bs : Nat} {s_sold : Nat → Int32} {s_fallen : Int32} {ko : Nat × Nat} {o bo : Nat} {o_sold : Nat → Int32} {o_fallen : Int32} (ht : zTw g G0 q t B N tk cp sh fc gn) (hs : zSt g G0 ks s bs s_sold s_fallen) (ho : zSt g G0 ko o bo o_sold o_fallen) {A H : Nat} {K : Nat → Nat} (hN : zWf N A H K) (h9_o : ¬ ko.2 = 9) (ne_t_s_00 : (q, 0) ≠ ks) (ne_t_s_10 : (q, 1) ≠ ks) (ne_t_s_20 : (q, 2) ≠ ks) (ne_t_o_00 : (q, 0) ≠ ko) (ne_t_o_10 : (q, 1) ≠ ko) (ne_t_o_20 : (q, 2) ≠ ko) (ne_s_o : ks ≠ ko) : ZM g yX1_next cX1_next 5 none 6 0 0 [.ref t, .ref s, .ref o] G0 (fun r G' => r = none ∧ (zTw g G' q t B N tk cp sh fc gn ∧ zSt g G' ks s bs s_sold s_fallen ∧ zSt g G' ko o bo (fs_ns N tk cp sh fc A H K s_sold s_fallen) (fs_nf N tk cp sh fc A H K s_sold s_fallen) ∧ zFrK [(q, 0), (q, 1), (q, 2), ko] G0 G')) := by
  have hN2 := hN.2.1
  obtain ⟨pr, s1, s2, f1, f2, b1, b2, h0, h1, h2⟩ := ht
  refine ZM.imp (met_X1_next hG h0 hs ho hN h9_o ne_t_s_00 ne_t_o_00 ne_s_o) (fun r G' hP => ?_)
  obtain ⟨rfl, a, b, c, e⟩ := hP
  refine ⟨rfl, ⟨_, _, _, _, _, _, _, a, h1.kp (e.kp (zni1 (zkr (by decide)) (zni1 ne_t_o_10 zni0))), h2.kp (e.kp (zni1 (zkr (by decide)) (zni1 ne_t_o_20 zni0)))⟩, b, c.congr (x1_next_eq (pr' := fun _ => 0) (o' := fun _ => 0) hN2 (fun _ _ => rfl)).1 (x1_next_eq (cp := cp) (pr' := fun _ => 0) (o' := fun _ => 0) hN2 (fun _ _ => rfl)).2, e.mono (fun κ hk => ?_)⟩
  rcases List.mem_cons.mp hk with z | z
  · rw [z]; exact List.mem_cons_self
  · rw [List.mem_singleton.mp z]; simp
theorem upd_back (N : Nat → Int32) (i : Nat) (c : Int32) : upd (upd N i (N i + c)) i (N i + c - c) = N := by
  funext j
  unfold upd
  split
  · rename_i h; rw [h, Int32.add_sub_cancel]
  · rfl
def x0_sharpest_l44 (N : Nat → Int32) (tk : Nat → Int32) (cp : Nat → Int32) (sh : Nat → Int32) (fc : Int32) (A : Nat) (H : Nat) (K : Nat → Nat) (ini : Int32 × Int32 × Int32 × (Nat → Int32) × Int32 × (Nat → Int32) × Int32) (k : Nat) : Int32 × Int32 × Int32 × (Nat → Int32) × Int32 × (Nat → Int32) × Int32 := zfold k (fun j1 cj1 => ((if cj1.2.1 < ((x1_lost N tk sh (fs_ns N tk cp sh fc A H K cj1.2.2.2.1 cj1.2.2.2.2.1) A K) - cj1.2.2.1) then nI (1 + j1) else cj1.1 : Int32), (if cj1.2.1 < ((x1_lost N tk sh (fs_ns N tk cp sh fc A H K cj1.2.2.2.1 cj1.2.2.2.2.1) A K) - cj1.2.2.1) then (x1_lost N tk sh (fs_ns N tk cp sh fc A H K cj1.2.2.2.1 cj1.2.2.2.2.1) A K) - cj1.2.2.1 else cj1.2.1 : Int32), cj1.2.2.1 + ((x1_lost N tk sh (fs_ns N tk cp sh fc A H K cj1.2.2.2.1 cj1.2.2.2.2.1) A K) - cj1.2.2.1), (fs_ns N tk cp sh fc A H K cj1.2.2.2.1 cj1.2.2.2.2.1), (fs_nf N tk cp sh fc A H K cj1.2.2.2.1 cj1.2.2.2.2.1), fs_ns N tk cp sh fc A H K cj1.2.2.2.1 cj1.2.2.2.2.1, fs_nf N tk cp sh fc A H K cj1.2.2.2.1 cj1.2.2.2.2.1)) ini
theorem x0_sharpest_l44_0 (N : Nat → Int32) (tk : Nat → Int32) (cp : Nat → Int32) (sh : Nat → Int32) (fc : Int32) (A : Nat) (H : Nat) (K : Nat → Nat) (ini : Int32 × Int32 × Int32 × (Nat → Int32) × Int32 × (Nat → Int32) × Int32) : x0_sharpest_l44 N tk cp sh fc A H K ini 0 = ini := (zfold_0 _ _).trans (Eq.refl _)
noncomputable def x0_sharpest (N : Nat → Int32) (tk : Nat → Int32) (cp : Nat → Int32) (sh : Nat → Int32) (fc : Int32) (A : Nat) (H : Nat) (K : Nat → Nat) : Int32 := (x0_sharpest_l44 N tk cp sh fc A H K ((-2), 0, 0, x1_calm_res_sold, x1_calm_res_fallen fc, x1_calm_res_sold, x1_calm_res_fallen fc) (fs_gone N tk cp sh fc A H K (x1_calm_res_sold, (x1_calm_res_fallen fc)) zForever)).1
noncomputable def x0_sharpest_gn (N : Nat → Int32) (tk : Nat → Int32) (cp : Nat → Int32) (sh : Nat → Int32) (fc : Int32) (A : Nat) (H : Nat) (K : Nat → Nat) : Int32 := x1_rounds_gn N tk cp sh fc x1_calm_res_sold (x1_calm_res_fallen fc) A H K
set_option maxHeartbeats 4000000 in
theorem met_X0_sharpest {g : Zg} (hG : zG g) {G0 : zHG} {xq x dq tp : Nat} {bg : Value} {bl tpd : Int32} {q t : Nat} {B : Nat → Nat → Nat} {N tk cp sh : Nat → Int32} {fc gn : Int32} (hx : zFx G0 xq x t dq tp bg bl tpd) (ht : zTw g G0 q t B N tk cp sh fc gn) {A H : Nat} {K : Nat → Nat} (hN : zWf N A H K) (ne_x_t_00 : (xq, 0) ≠ (q, 0)) (ne_x_t_01 : (xq, 0) ≠ (q, 1)) (ne_x_t_02 : (xq, 0) ≠ (q, 2))  : ZM g yX0_sharpest cX0_sharpest 9 (some FieldType.int) 10 9 28 [.ref x] G0 (fun r G' => r = some (.int (x0_sharpest N tk cp sh fc A H K)) ∧ (zFx G' xq x t dq tp bg bl tpd ∧ zTw g G' q t B N tk cp sh fc (x0_sharpest_gn N tk cp sh fc A H K) ∧ zFrK [(q, 0), (q, 1), (q, 2)] G0 G')) := by
  unfold x0_sharpest x0_sharpest_gn
  have hN2 := hN.2.1
  have hN4 := hN.2.2.2.1
  refine ZM_mk hG (by decide) (Nat.le_of_ble_eq_true rfl) ?_
  intro X hX hname hQ
  obtain ⟨G, hGe⟩ : ∃ z, z = G0 := ⟨_, rfl⟩
  have hM : zFx G xq x t dq tp bg bl tpd ∧ zTw g G q t B N tk cp sh fc gn ∧ zFrK [(q, 0), (q, 1), (q, 2)] G0 G := by rw [hGe]; exact ⟨hx, ht, zFrK.rf⟩
  show ZW g X 0 0 G0 0 [(0, .ref x)] []
  rw [← hGe]
  refine z_bipush hX dX0_sharpest_0 2 rfl zkb_m2 ?_
  refine z_istore_n hX dX0_sharpest_2 3 rfl (i := 1) rfl (Nat.le_of_ble_eq_true rfl) rfl (L' := [(0, .ref x), (1, .int (-2))]) rfl ?_
  refine z_iconst hX dX0_sharpest_3 4 rfl zki_0 ?_
  refine z_istore_n hX dX0_sharpest_4 5 rfl (i := 2) rfl (Nat.le_of_ble_eq_true rfl) rfl (L' := [(0, .ref x), (1, .int (-2)), (2, .int 0)]) rfl ?_
  refine z_aload_n hX dX0_sharpest_5 6 rfl (i := 0) rfl 0 rfl ?_
  refine z_getf hX fX0_10 hM.1.o dX0_sharpest_6 9 rfl (x := .ref t) rfl ?_
  refine z_aload_n hX dX0_sharpest_9 10 rfl (i := 0) rfl 0 rfl ?_
  refine z_getf hX fX0_10 hM.1.o dX0_sharpest_10 13 rfl (x := .ref t) rfl ?_
  obtain ⟨opr, os1, os2, of1, of2, ob1, ob2, hT9, h19, h29⟩ := id hM.2.1
  refine z_callV hX cwX0_213 (met_X1_calm hG hT9) hT9.o rfl rfl dX0_sharpest_13 16 rfl rfl rfl (Nat.le_of_ble_eq_true rfl) (by decide) ⟨by omega, by omega⟩ (fun r G hP => ?_)
  obtain ⟨ns13, s13, bs13, hzs13, rfl, hP⟩ := hP
  have ne_x_s13 : (xq, 0) ≠ (ns13, 0) := hzs13.neT hM.1.o
  obtain ⟨fs9, ho9⟩ := hM.2.1.o
  have ne_t_s13_0 : (q, 0) ≠ (ns13, 0) := hzs13.neT ho9
  have ne_t_s13_1 : (q, 1) ≠ (ns13, 0) := hzs13.neT ho9
  have ne_t_s13_2 : (q, 2) ≠ (ns13, 0) := hzs13.neT ho9
  have nq_t_s13 : q ≠ ns13 := hzs13 _ _ _ ho9
  have fn_s13 : zFresh G0 ns13 := hzs13.of' hM.2.2 (zfm1 nq_t_s13 (zfm1 nq_t_s13 (zfm1 nq_t_s13 zfm0)))
  have hM : zFx G xq x t dq tp bg bl tpd ∧ zTw g G q t B N tk cp sh fc gn ∧ zSt g G (ns13, 0) s13 bs13 x1_calm_res_sold (x1_calm_res_fallen fc) ∧ zFrK [(q, 0), (q, 1), (q, 2)] G0 G := ⟨hM.1.kp (hP.2.2.kp zni0), ⟨_, os1, os2, of1, of2, ob1, ob2, hP.1, h19.kp (hP.2.2.kp zni0), h29.kp (hP.2.2.kp zni0)⟩, hP.2.1, hM.2.2.stepL hP.2.2 zml0⟩
  show ZW g X 2 6 G 16 [(0, .ref x), (1, .int (-2)), (2, .int 0)] [.ref s13, .ref t]
  obtain ⟨fs9, ho9⟩ := hM.2.1.o
  refine z_callV hX cwX0_216 (met_X1_rounds hG hM.2.1 hM.2.2.1 hN ne_t_s13_0 ne_t_s13_1 ne_t_s13_2) ho9 rfl rfl dX0_sharpest_16 19 rfl rfl rfl (Nat.le_of_ble_eq_true rfl) (by decide) ⟨by omega, by omega⟩ (fun r G hP => ?_)
  obtain ⟨rfl, hP⟩ := hP
  have hM : zFx G xq x t dq tp bg bl tpd ∧ zTw g G q t B N tk cp sh fc (x1_rounds_gn N tk cp sh fc x1_calm_res_sold (x1_calm_res_fallen fc) A H K) ∧ zSt g G (ns13, 0) s13 bs13 x1_calm_res_sold (x1_calm_res_fallen fc) ∧ zFrK [(q, 0), (q, 1), (q, 2)] G0 G := ⟨hM.1.kp (hP.2.2.kp (zni1 ne_x_t_00 (zni1 ne_x_t_01 (zni1 ne_x_t_02 zni0)))), hP.1, hP.2.1, hM.2.2.2.stepL hP.2.2 (zml1 (Or.inl List.mem_cons_self) (zml1 (Or.inl (List.mem_cons_of_mem _ List.mem_cons_self)) (zml1 (Or.inl (List.mem_cons_of_mem _ (List.mem_cons_of_mem _ List.mem_cons_self))) zml0)))⟩
  show ZW g X 5 16 G 19 [(0, .ref x), (1, .int (-2)), (2, .int 0)] [.int (nI (fs_gone N tk cp sh fc A H K (x1_calm_res_sold, (x1_calm_res_fallen fc)) zForever))]
  have hgo16 : fs_gone N tk cp sh fc A H K (x1_calm_res_sold, (x1_calm_res_fallen fc)) zForever < 1000001 := Nat.lt_of_le_of_lt fs_gone_le zFor_lt
  refine z_istore_n hX dX0_sharpest_19 20 rfl (i := 3) rfl (Nat.le_of_ble_eq_true rfl) rfl (L' := [(0, .ref x), (1, .int (-2)), (2, .int 0), (3, .int (nI (fs_gone N tk cp sh fc A H K (x1_calm_res_sold, (x1_calm_res_fallen fc)) zForever)))]) rfl ?_
  refine z_iconst hX dX0_sharpest_20 21 rfl zki_0 ?_
  refine z_istore hX dX0_sharpest_21 23 rfl (Nat.le_of_ble_eq_true rfl) rfl (L' := [(0, .ref x), (1, .int (-2)), (2, .int 0), (3, .int (nI (fs_gone N tk cp sh fc A H K (x1_calm_res_sold, (x1_calm_res_fallen fc)) zForever))), (4, .int 0)]) rfl ?_
  refine z_aload_n hX dX0_sharpest_23 24 rfl (i := 0) rfl 0 rfl ?_
  refine z_getf hX fX0_10 hM.1.o dX0_sharpest_24 27 rfl (x := .ref t) rfl ?_
  obtain ⟨opr, os1, os2, of1, of2, ob1, ob2, hT9, h19, h29⟩ := id hM.2.1
  refine z_callV hX cwX0_213 (met_X1_calm hG hT9) hT9.o rfl rfl dX0_sharpest_27 30 rfl rfl rfl (Nat.le_of_ble_eq_true rfl) (by decide) ⟨by omega, by omega⟩ (fun r G hP => ?_)
  obtain ⟨ns27, s27, bs27, hzs27, rfl, hP⟩ := hP
  have ne_x_s27 : (xq, 0) ≠ (ns27, 0) := hzs27.neT hM.1.o
  obtain ⟨fs9, ho9⟩ := hM.2.1.o
  have ne_t_s27_0 : (q, 0) ≠ (ns27, 0) := hzs27.neT ho9
  have ne_t_s27_1 : (q, 1) ≠ (ns27, 0) := hzs27.neT ho9
  have ne_t_s27_2 : (q, 2) ≠ (ns27, 0) := hzs27.neT ho9
  have nq_t_s27 : q ≠ ns27 := hzs27 _ _ _ ho9
  have ne_s13_s27 : (ns13, 0) ≠ (ns27, 0) := hzs27.neS hM.2.2.1.o
  have fn_s27 : zFresh G0 ns27 := hzs27.of' hM.2.2.2 (zfm1 nq_t_s27 (zfm1 nq_t_s27 (zfm1 nq_t_s27 zfm0)))
  have hM : zFx G xq x t dq tp bg bl tpd ∧ zTw g G q t B N tk cp sh fc (x1_rounds_gn N tk cp sh fc x1_calm_res_sold (x1_calm_res_fallen fc) A H K) ∧ zSt g G (ns13, 0) s13 bs13 x1_calm_res_sold (x1_calm_res_fallen fc) ∧ zSt g G (ns27, 0) s27 bs27 x1_calm_res_sold (x1_calm_res_fallen fc) ∧ zFrK [(q, 0), (q, 1), (q, 2)] G0 G := ⟨hM.1.kp (hP.2.2.kp zni0), ⟨_, os1, os2, of1, of2, ob1, ob2, hP.1, h19.kp (hP.2.2.kp zni0), h29.kp (hP.2.2.kp zni0)⟩, hM.2.2.1.kp (hP.2.2.kp zni0), hP.2.1, hM.2.2.2.stepL hP.2.2 zml0⟩
  show ZW g X 7 22 G 30 [(0, .ref x), (1, .int (-2)), (2, .int 0), (3, .int (nI (fs_gone N tk cp sh fc A H K (x1_calm_res_sold, (x1_calm_res_fallen fc)) zForever))), (4, .int 0)] [.ref s27]
  refine z_astore hX dX0_sharpest_30 32 rfl (Nat.le_of_ble_eq_true rfl) rfl (L' := [(0, .ref x), (1, .int (-2)), (2, .int 0), (3, .int (nI (fs_gone N tk cp sh fc A H K (x1_calm_res_sold, (x1_calm_res_fallen fc)) zForever))), (4, .int 0), (5, .ref s27)]) rfl ?_
  refine z_aload_n hX dX0_sharpest_32 33 rfl (i := 0) rfl 0 rfl ?_
  refine z_getf hX fX0_10 hM.1.o dX0_sharpest_33 36 rfl (x := .ref t) rfl ?_
  obtain ⟨opr, os1, os2, of1, of2, ob1, ob2, hT9, h19, h29⟩ := id hM.2.1
  refine z_callV hX cwX0_213 (met_X1_calm hG hT9) hT9.o rfl rfl dX0_sharpest_36 39 rfl rfl rfl (Nat.le_of_ble_eq_true rfl) (by decide) ⟨by omega, by omega⟩ (fun r G hP => ?_)
  obtain ⟨ns36, s36, bs36, hzs36, rfl, hP⟩ := hP
  have ne_x_s36 : (xq, 0) ≠ (ns36, 0) := hzs36.neT hM.1.o
  obtain ⟨fs9, ho9⟩ := hM.2.1.o
  have ne_t_s36_0 : (q, 0) ≠ (ns36, 0) := hzs36.neT ho9
  have ne_t_s36_1 : (q, 1) ≠ (ns36, 0) := hzs36.neT ho9
  have ne_t_s36_2 : (q, 2) ≠ (ns36, 0) := hzs36.neT ho9
  have nq_t_s36 : q ≠ ns36 := hzs36 _ _ _ ho9
  have ne_s13_s36 : (ns13, 0) ≠ (ns36, 0) := hzs36.neS hM.2.2.1.o
  have ne_s27_s36 : (ns27, 0) ≠ (ns36, 0) := hzs36.neS hM.2.2.2.1.o
  have fn_s36 : zFresh G0 ns36 := hzs36.of' hM.2.2.2.2 (zfm1 nq_t_s36 (zfm1 nq_t_s36 (zfm1 nq_t_s36 zfm0)))
  have hM : zFx G xq x t dq tp bg bl tpd ∧ zTw g G q t B N tk cp sh fc (x1_rounds_gn N tk cp sh fc x1_calm_res_sold (x1_calm_res_fallen fc) A H K) ∧ zSt g G (ns13, 0) s13 bs13 x1_calm_res_sold (x1_calm_res_fallen fc) ∧ zSt g G (ns27, 0) s27 bs27 x1_calm_res_sold (x1_calm_res_fallen fc) ∧ zSt g G (ns36, 0) s36 bs36 x1_calm_res_sold (x1_calm_res_fallen fc) ∧ zFrK [(q, 0), (q, 1), (q, 2)] G0 G := ⟨hM.1.kp (hP.2.2.kp zni0), ⟨_, os1, os2, of1, of2, ob1, ob2, hP.1, h19.kp (hP.2.2.kp zni0), h29.kp (hP.2.2.kp zni0)⟩, hM.2.2.1.kp (hP.2.2.kp zni0), hM.2.2.2.1.kp (hP.2.2.kp zni0), hP.2.1, hM.2.2.2.2.stepL hP.2.2 zml0⟩
  show ZW g X 9 28 G 39 [(0, .ref x), (1, .int (-2)), (2, .int 0), (3, .int (nI (fs_gone N tk cp sh fc A H K (x1_calm_res_sold, (x1_calm_res_fallen fc)) zForever))), (4, .int 0), (5, .ref s27)] [.ref s36]
  refine z_astore hX dX0_sharpest_39 41 rfl (Nat.le_of_ble_eq_true rfl) rfl (L' := [(0, .ref x), (1, .int (-2)), (2, .int 0), (3, .int (nI (fs_gone N tk cp sh fc A H K (x1_calm_res_sold, (x1_calm_res_fallen fc)) zForever))), (4, .int 0), (5, .ref s27), (6, .ref s36)]) rfl ?_
  refine z_iconst hX dX0_sharpest_41 42 rfl zki_1 ?_
  refine z_istore hX dX0_sharpest_42 44 rfl (Nat.le_of_ble_eq_true rfl) rfl (L' := [(0, .ref x), (1, .int (-2)), (2, .int 0), (3, .int (nI (fs_gone N tk cp sh fc A H K (x1_calm_res_sold, (x1_calm_res_fallen fc)) zForever))), (4, .int 0), (5, .ref s27), (6, .ref s36), (7, .int 1)]) rfl ?_
  have E2 : ∀ G : zHG, zFx G xq x t dq tp bg bl tpd ∧ zTw g G q t B N tk cp sh fc (x1_rounds_gn N tk cp sh fc x1_calm_res_sold (x1_calm_res_fallen fc) A H K) ∧ zSt g G (ns13, 0) s13 bs13 x1_calm_res_sold (x1_calm_res_fallen fc) ∧ zSt g G (ns27, 0) s27 bs27 ((x0_sharpest_l44 N tk cp sh fc A H K ((-2), 0, 0, x1_calm_res_sold, x1_calm_res_fallen fc, x1_calm_res_sold, x1_calm_res_fallen fc) (fs_gone N tk cp sh fc A H K (x1_calm_res_sold, (x1_calm_res_fallen fc)) zForever)).2.2.2.1) ((x0_sharpest_l44 N tk cp sh fc A H K ((-2), 0, 0, x1_calm_res_sold, x1_calm_res_fallen fc, x1_calm_res_sold, x1_calm_res_fallen fc) (fs_gone N tk cp sh fc A H K (x1_calm_res_sold, (x1_calm_res_fallen fc)) zForever)).2.2.2.2.1) ∧ zSt g G (ns36, 0) s36 bs36 ((x0_sharpest_l44 N tk cp sh fc A H K ((-2), 0, 0, x1_calm_res_sold, x1_calm_res_fallen fc, x1_calm_res_sold, x1_calm_res_fallen fc) (fs_gone N tk cp sh fc A H K (x1_calm_res_sold, (x1_calm_res_fallen fc)) zForever)).2.2.2.2.2.1) ((x0_sharpest_l44 N tk cp sh fc A H K ((-2), 0, 0, x1_calm_res_sold, x1_calm_res_fallen fc, x1_calm_res_sold, x1_calm_res_fallen fc) (fs_gone N tk cp sh fc A H K (x1_calm_res_sold, (x1_calm_res_fallen fc)) zForever)).2.2.2.2.2.2) ∧ zFrK [(q, 0), (q, 1), (q, 2)] G0 G → ZW g X 9 28 G 110 [(0, .ref x), (1, .int ((x0_sharpest_l44 N tk cp sh fc A H K ((-2), 0, 0, x1_calm_res_sold, x1_calm_res_fallen fc, x1_calm_res_sold, x1_calm_res_fallen fc) (fs_gone N tk cp sh fc A H K (x1_calm_res_sold, (x1_calm_res_fallen fc)) zForever)).1)), (2, .int ((x0_sharpest_l44 N tk cp sh fc A H K ((-2), 0, 0, x1_calm_res_sold, x1_calm_res_fallen fc, x1_calm_res_sold, x1_calm_res_fallen fc) (fs_gone N tk cp sh fc A H K (x1_calm_res_sold, (x1_calm_res_fallen fc)) zForever)).2.1)), (3, .int (nI (fs_gone N tk cp sh fc A H K (x1_calm_res_sold, (x1_calm_res_fallen fc)) zForever))), (4, .int ((x0_sharpest_l44 N tk cp sh fc A H K ((-2), 0, 0, x1_calm_res_sold, x1_calm_res_fallen fc, x1_calm_res_sold, x1_calm_res_fallen fc) (fs_gone N tk cp sh fc A H K (x1_calm_res_sold, (x1_calm_res_fallen fc)) zForever)).2.2.1)), (5, .ref s27), (6, .ref s36), (7, .int (nI (1 + (fs_gone N tk cp sh fc A H K (x1_calm_res_sold, (x1_calm_res_fallen fc)) zForever))))] [] := by
    intro G hM
    refine z_iload_n hX dX0_sharpest_110 111 rfl (i := 1) rfl 1 rfl ?_
    have hM : zFx G xq x t dq tp bg bl tpd ∧ zTw g G q t B N tk cp sh fc (x1_rounds_gn N tk cp sh fc x1_calm_res_sold (x1_calm_res_fallen fc) A H K) ∧ zFrK [(q, 0), (q, 1), (q, 2)] G0 G := ⟨hM.1, hM.2.1, hM.2.2.2.2.2⟩
    exact z_iret hX hQ (by omega) (by omega) rfl dX0_sharpest_111 ⟨rfl, hM⟩
  have Lp3 : ∀ k j1 : Nat, j1 + k = (fs_gone N tk cp sh fc A H K (x1_calm_res_sold, (x1_calm_res_fallen fc)) zForever) → ∀ G : zHG, zFx G xq x t dq tp bg bl tpd ∧ zTw g G q t B N tk cp sh fc (x1_rounds_gn N tk cp sh fc x1_calm_res_sold (x1_calm_res_fallen fc) A H K) ∧ zSt g G (ns13, 0) s13 bs13 x1_calm_res_sold (x1_calm_res_fallen fc) ∧ zSt g G (ns27, 0) s27 bs27 ((x0_sharpest_l44 N tk cp sh fc A H K ((-2), 0, 0, x1_calm_res_sold, x1_calm_res_fallen fc, x1_calm_res_sold, x1_calm_res_fallen fc) j1).2.2.2.1) ((x0_sharpest_l44 N tk cp sh fc A H K ((-2), 0, 0, x1_calm_res_sold, x1_calm_res_fallen fc, x1_calm_res_sold, x1_calm_res_fallen fc) j1).2.2.2.2.1) ∧ zSt g G (ns36, 0) s36 bs36 ((x0_sharpest_l44 N tk cp sh fc A H K ((-2), 0, 0, x1_calm_res_sold, x1_calm_res_fallen fc, x1_calm_res_sold, x1_calm_res_fallen fc) j1).2.2.2.2.2.1) ((x0_sharpest_l44 N tk cp sh fc A H K ((-2), 0, 0, x1_calm_res_sold, x1_calm_res_fallen fc, x1_calm_res_sold, x1_calm_res_fallen fc) j1).2.2.2.2.2.2) ∧ zFrK [(q, 0), (q, 1), (q, 2)] G0 G → ZW g X 9 28 G 44 [(0, .ref x), (1, .int ((x0_sharpest_l44 N tk cp sh fc A H K ((-2), 0, 0, x1_calm_res_sold, x1_calm_res_fallen fc, x1_calm_res_sold, x1_calm_res_fallen fc) j1).1)), (2, .int ((x0_sharpest_l44 N tk cp sh fc A H K ((-2), 0, 0, x1_calm_res_sold, x1_calm_res_fallen fc, x1_calm_res_sold, x1_calm_res_fallen fc) j1).2.1)), (3, .int (nI (fs_gone N tk cp sh fc A H K (x1_calm_res_sold, (x1_calm_res_fallen fc)) zForever))), (4, .int ((x0_sharpest_l44 N tk cp sh fc A H K ((-2), 0, 0, x1_calm_res_sold, x1_calm_res_fallen fc, x1_calm_res_sold, x1_calm_res_fallen fc) j1).2.2.1)), (5, .ref s27), (6, .ref s36), (7, .int (nI (1 + j1)))] [] := by
    intro k
    induction k with
    | zero =>
      intro j1 hj1 G hM
      rw [show j1 = (fs_gone N tk cp sh fc A H K (x1_calm_res_sold, (x1_calm_res_fallen fc)) zForever) from by omega] at hM ⊢
      refine z_iload hX dX0_sharpest_44 46 rfl 7 rfl ?_
      refine z_iload_n hX dX0_sharpest_46 47 rfl (i := 3) rfl 3 rfl ?_
      refine z_icmp_gtN hX (1 + (fs_gone N tk cp sh fc A H K (x1_calm_res_sold, (x1_calm_res_fallen fc)) zForever)) (fs_gone N tk cp sh fc A H K (x1_calm_res_sold, (x1_calm_res_fallen fc)) zForever) (by omega) (by omega) dX0_sharpest_47 50 rfl (tgt := 110) (by decide) (fun c4 => ?_) (fun c4 => ?_)
      · exact E2 _ hM
      · exact absurd c4 (by omega)
    | succ k ih =>
      intro j1 hj1 G hM
      refine z_iload hX dX0_sharpest_44 46 rfl 7 rfl ?_
      refine z_iload_n hX dX0_sharpest_46 47 rfl (i := 3) rfl 3 rfl ?_
      refine z_icmp_gtN hX (1 + j1) (fs_gone N tk cp sh fc A H K (x1_calm_res_sold, (x1_calm_res_fallen fc)) zForever) (by omega) (by omega) dX0_sharpest_47 50 rfl (tgt := 110) (by decide) (fun c5 => ?_) (fun c5 => ?_)
      · exact absurd c5 (by omega)
      ·
        refine z_aload_n hX dX0_sharpest_50 51 rfl (i := 0) rfl 0 rfl ?_
        refine z_getf hX fX0_10 hM.1.o dX0_sharpest_51 54 rfl (x := .ref t) rfl ?_
        refine z_aload hX dX0_sharpest_54 56 rfl 5 rfl ?_
        refine z_aload hX dX0_sharpest_56 58 rfl 6 rfl ?_
        obtain ⟨fs9, ho9⟩ := hM.2.1.o
        refine z_callV hX cwX0_238 (met_X1_nextW hG hM.2.1 hM.2.2.2.1 hM.2.2.2.2.1 hN (show ¬ 0 = 9 from by decide) ne_t_s27_0 ne_t_s27_1 ne_t_s27_2 ne_t_s36_0 ne_t_s36_1 ne_t_s36_2 ne_s27_s36) ho9 rfl rfl dX0_sharpest_58 61 rfl rfl rfl (Nat.le_of_ble_eq_true rfl) (by decide) ⟨by omega, by omega⟩ (fun r G hP => ?_)
        obtain ⟨rfl, hP⟩ := hP
        have hM : zFx G xq x t dq tp bg bl tpd ∧ zTw g G q t B N tk cp sh fc (x1_rounds_gn N tk cp sh fc x1_calm_res_sold (x1_calm_res_fallen fc) A H K) ∧ zSt g G (ns13, 0) s13 bs13 x1_calm_res_sold (x1_calm_res_fallen fc) ∧ zSt g G (ns27, 0) s27 bs27 ((x0_sharpest_l44 N tk cp sh fc A H K ((-2), 0, 0, x1_calm_res_sold, x1_calm_res_fallen fc, x1_calm_res_sold, x1_calm_res_fallen fc) j1).2.2.2.1) ((x0_sharpest_l44 N tk cp sh fc A H K ((-2), 0, 0, x1_calm_res_sold, x1_calm_res_fallen fc, x1_calm_res_sold, x1_calm_res_fallen fc) j1).2.2.2.2.1) ∧ zSt g G (ns36, 0) s36 bs36 (fs_ns N tk cp sh fc A H K ((x0_sharpest_l44 N tk cp sh fc A H K ((-2), 0, 0, x1_calm_res_sold, x1_calm_res_fallen fc, x1_calm_res_sold, x1_calm_res_fallen fc) j1).2.2.2.1) ((x0_sharpest_l44 N tk cp sh fc A H K ((-2), 0, 0, x1_calm_res_sold, x1_calm_res_fallen fc, x1_calm_res_sold, x1_calm_res_fallen fc) j1).2.2.2.2.1)) (fs_nf N tk cp sh fc A H K ((x0_sharpest_l44 N tk cp sh fc A H K ((-2), 0, 0, x1_calm_res_sold, x1_calm_res_fallen fc, x1_calm_res_sold, x1_calm_res_fallen fc) j1).2.2.2.1) ((x0_sharpest_l44 N tk cp sh fc A H K ((-2), 0, 0, x1_calm_res_sold, x1_calm_res_fallen fc, x1_calm_res_sold, x1_calm_res_fallen fc) j1).2.2.2.2.1)) ∧ zFrK [(q, 0), (q, 1), (q, 2)] G0 G := ⟨hM.1.kp (hP.2.2.2.kp (zni1 ne_x_t_00 (zni1 ne_x_t_01 (zni1 ne_x_t_02 (zni1 ne_x_s36 zni0))))), hP.1, hM.2.2.1.kp (hP.2.2.2.kp (zni1 (Ne.symm ne_t_s13_0) (zni1 (Ne.symm ne_t_s13_1) (zni1 (Ne.symm ne_t_s13_2) (zni1 ne_s13_s36 zni0))))), hP.2.1, hP.2.2.1, hM.2.2.2.2.2.stepL hP.2.2.2 (zml1 (Or.inl List.mem_cons_self) (zml1 (Or.inl (List.mem_cons_of_mem _ List.mem_cons_self)) (zml1 (Or.inl (List.mem_cons_of_mem _ (List.mem_cons_of_mem _ List.mem_cons_self))) (zml1 (Or.inr fn_s36) zml0))))⟩
        show ZW g X 9 28 G 61 [(0, .ref x), (1, .int ((x0_sharpest_l44 N tk cp sh fc A H K ((-2), 0, 0, x1_calm_res_sold, x1_calm_res_fallen fc, x1_calm_res_sold, x1_calm_res_fallen fc) j1).1)), (2, .int ((x0_sharpest_l44 N tk cp sh fc A H K ((-2), 0, 0, x1_calm_res_sold, x1_calm_res_fallen fc, x1_calm_res_sold, x1_calm_res_fallen fc) j1).2.1)), (3, .int (nI (fs_gone N tk cp sh fc A H K (x1_calm_res_sold, (x1_calm_res_fallen fc)) zForever))), (4, .int ((x0_sharpest_l44 N tk cp sh fc A H K ((-2), 0, 0, x1_calm_res_sold, x1_calm_res_fallen fc, x1_calm_res_sold, x1_calm_res_fallen fc) j1).2.2.1)), (5, .ref s27), (6, .ref s36), (7, .int (nI (1 + j1)))] []
        refine z_aload hX dX0_sharpest_61 63 rfl 5 rfl ?_
        refine z_aload hX dX0_sharpest_63 65 rfl 6 rfl ?_
        refine z_callV hX cwX0_242 (met_X3_like hG hM.2.2.2.1 hM.2.2.2.2.1 (show ¬ 0 = 9 from by decide) ne_s27_s36) hM.2.2.2.1.o rfl rfl dX0_sharpest_65 68 rfl rfl rfl (Nat.le_of_ble_eq_true rfl) (by decide) ⟨by omega, by omega⟩ (fun r G hP => ?_)
        obtain ⟨rfl, hP⟩ := hP
        have hM : zFx G xq x t dq tp bg bl tpd ∧ zTw g G q t B N tk cp sh fc (x1_rounds_gn N tk cp sh fc x1_calm_res_sold (x1_calm_res_fallen fc) A H K) ∧ zSt g G (ns13, 0) s13 bs13 x1_calm_res_sold (x1_calm_res_fallen fc) ∧ zSt g G (ns27, 0) s27 bs27 (fs_ns N tk cp sh fc A H K ((x0_sharpest_l44 N tk cp sh fc A H K ((-2), 0, 0, x1_calm_res_sold, x1_calm_res_fallen fc, x1_calm_res_sold, x1_calm_res_fallen fc) j1).2.2.2.1) ((x0_sharpest_l44 N tk cp sh fc A H K ((-2), 0, 0, x1_calm_res_sold, x1_calm_res_fallen fc, x1_calm_res_sold, x1_calm_res_fallen fc) j1).2.2.2.2.1)) (fs_nf N tk cp sh fc A H K ((x0_sharpest_l44 N tk cp sh fc A H K ((-2), 0, 0, x1_calm_res_sold, x1_calm_res_fallen fc, x1_calm_res_sold, x1_calm_res_fallen fc) j1).2.2.2.1) ((x0_sharpest_l44 N tk cp sh fc A H K ((-2), 0, 0, x1_calm_res_sold, x1_calm_res_fallen fc, x1_calm_res_sold, x1_calm_res_fallen fc) j1).2.2.2.2.1)) ∧ zSt g G (ns36, 0) s36 bs36 (fs_ns N tk cp sh fc A H K ((x0_sharpest_l44 N tk cp sh fc A H K ((-2), 0, 0, x1_calm_res_sold, x1_calm_res_fallen fc, x1_calm_res_sold, x1_calm_res_fallen fc) j1).2.2.2.1) ((x0_sharpest_l44 N tk cp sh fc A H K ((-2), 0, 0, x1_calm_res_sold, x1_calm_res_fallen fc, x1_calm_res_sold, x1_calm_res_fallen fc) j1).2.2.2.2.1)) (fs_nf N tk cp sh fc A H K ((x0_sharpest_l44 N tk cp sh fc A H K ((-2), 0, 0, x1_calm_res_sold, x1_calm_res_fallen fc, x1_calm_res_sold, x1_calm_res_fallen fc) j1).2.2.2.1) ((x0_sharpest_l44 N tk cp sh fc A H K ((-2), 0, 0, x1_calm_res_sold, x1_calm_res_fallen fc, x1_calm_res_sold, x1_calm_res_fallen fc) j1).2.2.2.2.1)) ∧ zFrK [(q, 0), (q, 1), (q, 2)] G0 G := ⟨hM.1.kp (hP.2.2.kp (zni1 ne_x_s27 zni0)), hM.2.1.kp (hP.2.2.kp (zni1 ne_t_s27_0 zni0)) (hP.2.2.kp (zni1 ne_t_s27_1 zni0)) (hP.2.2.kp (zni1 ne_t_s27_2 zni0)), hM.2.2.1.kp (hP.2.2.kp (zni1 ne_s13_s27 zni0)), hP.1, hP.2.1, hM.2.2.2.2.2.stepL hP.2.2 (zml1 (Or.inr fn_s27) zml0)⟩
        show ZW g X 9 28 G 68 [(0, .ref x), (1, .int ((x0_sharpest_l44 N tk cp sh fc A H K ((-2), 0, 0, x1_calm_res_sold, x1_calm_res_fallen fc, x1_calm_res_sold, x1_calm_res_fallen fc) j1).1)), (2, .int ((x0_sharpest_l44 N tk cp sh fc A H K ((-2), 0, 0, x1_calm_res_sold, x1_calm_res_fallen fc, x1_calm_res_sold, x1_calm_res_fallen fc) j1).2.1)), (3, .int (nI (fs_gone N tk cp sh fc A H K (x1_calm_res_sold, (x1_calm_res_fallen fc)) zForever))), (4, .int ((x0_sharpest_l44 N tk cp sh fc A H K ((-2), 0, 0, x1_calm_res_sold, x1_calm_res_fallen fc, x1_calm_res_sold, x1_calm_res_fallen fc) j1).2.2.1)), (5, .ref s27), (6, .ref s36), (7, .int (nI (1 + j1)))] []
        refine z_aload_n hX dX0_sharpest_68 69 rfl (i := 0) rfl 0 rfl ?_
        refine z_getf hX fX0_10 hM.1.o dX0_sharpest_69 72 rfl (x := .ref t) rfl ?_
        refine z_aload hX dX0_sharpest_72 74 rfl 5 rfl ?_
        obtain ⟨opr, os1, os2, of1, of2, ob1, ob2, hT9, h19, h29⟩ := id hM.2.1
        refine z_callVp hX cwX0_246 (w := .int (x1_lost N tk sh (fs_ns N tk cp sh fc A H K ((x0_sharpest_l44 N tk cp sh fc A H K ((-2), 0, 0, x1_calm_res_sold, x1_calm_res_fallen fc, x1_calm_res_sold, x1_calm_res_fallen fc) j1).2.2.2.1) ((x0_sharpest_l44 N tk cp sh fc A H K ((-2), 0, 0, x1_calm_res_sold, x1_calm_res_fallen fc, x1_calm_res_sold, x1_calm_res_fallen fc) j1).2.2.2.2.1)) A K)) (met_X1_lost hG hT9 hM.2.2.2.1 hN) hT9.o rfl rfl dX0_sharpest_74 77 rfl rfl rfl (Nat.le_of_ble_eq_true rfl) (by decide) ⟨by omega, by omega⟩ ?_
        refine z_iload hX dX0_sharpest_77 79 rfl 4 rfl ?_
        refine z_isub hX dX0_sharpest_79 80 rfl (w := (x1_lost N tk sh (fs_ns N tk cp sh fc A H K ((x0_sharpest_l44 N tk cp sh fc A H K ((-2), 0, 0, x1_calm_res_sold, x1_calm_res_fallen fc, x1_calm_res_sold, x1_calm_res_fallen fc) j1).2.2.2.1) ((x0_sharpest_l44 N tk cp sh fc A H K ((-2), 0, 0, x1_calm_res_sold, x1_calm_res_fallen fc, x1_calm_res_sold, x1_calm_res_fallen fc) j1).2.2.2.2.1)) A K) - ((x0_sharpest_l44 N tk cp sh fc A H K ((-2), 0, 0, x1_calm_res_sold, x1_calm_res_fallen fc, x1_calm_res_sold, x1_calm_res_fallen fc) j1).2.2.1)) rfl ?_
        refine z_istore hX dX0_sharpest_80 82 rfl (Nat.le_of_ble_eq_true rfl) rfl (L' := [(0, .ref x), (1, .int ((x0_sharpest_l44 N tk cp sh fc A H K ((-2), 0, 0, x1_calm_res_sold, x1_calm_res_fallen fc, x1_calm_res_sold, x1_calm_res_fallen fc) j1).1)), (2, .int ((x0_sharpest_l44 N tk cp sh fc A H K ((-2), 0, 0, x1_calm_res_sold, x1_calm_res_fallen fc, x1_calm_res_sold, x1_calm_res_fallen fc) j1).2.1)), (3, .int (nI (fs_gone N tk cp sh fc A H K (x1_calm_res_sold, (x1_calm_res_fallen fc)) zForever))), (4, .int ((x0_sharpest_l44 N tk cp sh fc A H K ((-2), 0, 0, x1_calm_res_sold, x1_calm_res_fallen fc, x1_calm_res_sold, x1_calm_res_fallen fc) j1).2.2.1)), (5, .ref s27), (6, .ref s36), (7, .int (nI (1 + j1))), (8, .int ((x1_lost N tk sh (fs_ns N tk cp sh fc A H K ((x0_sharpest_l44 N tk cp sh fc A H K ((-2), 0, 0, x1_calm_res_sold, x1_calm_res_fallen fc, x1_calm_res_sold, x1_calm_res_fallen fc) j1).2.2.2.1) ((x0_sharpest_l44 N tk cp sh fc A H K ((-2), 0, 0, x1_calm_res_sold, x1_calm_res_fallen fc, x1_calm_res_sold, x1_calm_res_fallen fc) j1).2.2.2.2.1)) A K) - ((x0_sharpest_l44 N tk cp sh fc A H K ((-2), 0, 0, x1_calm_res_sold, x1_calm_res_fallen fc, x1_calm_res_sold, x1_calm_res_fallen fc) j1).2.2.1)))]) rfl ?_
        refine z_iload hX dX0_sharpest_82 84 rfl 4 rfl ?_
        refine z_iload hX dX0_sharpest_84 86 rfl 8 rfl ?_
        refine z_iadd hX dX0_sharpest_86 87 rfl (w := ((x0_sharpest_l44 N tk cp sh fc A H K ((-2), 0, 0, x1_calm_res_sold, x1_calm_res_fallen fc, x1_calm_res_sold, x1_calm_res_fallen fc) j1).2.2.1) + ((x1_lost N tk sh (fs_ns N tk cp sh fc A H K ((x0_sharpest_l44 N tk cp sh fc A H K ((-2), 0, 0, x1_calm_res_sold, x1_calm_res_fallen fc, x1_calm_res_sold, x1_calm_res_fallen fc) j1).2.2.2.1) ((x0_sharpest_l44 N tk cp sh fc A H K ((-2), 0, 0, x1_calm_res_sold, x1_calm_res_fallen fc, x1_calm_res_sold, x1_calm_res_fallen fc) j1).2.2.2.2.1)) A K) - ((x0_sharpest_l44 N tk cp sh fc A H K ((-2), 0, 0, x1_calm_res_sold, x1_calm_res_fallen fc, x1_calm_res_sold, x1_calm_res_fallen fc) j1).2.2.1))) rfl ?_
        refine z_istore hX dX0_sharpest_87 89 rfl (Nat.le_of_ble_eq_true rfl) rfl (L' := [(0, .ref x), (1, .int ((x0_sharpest_l44 N tk cp sh fc A H K ((-2), 0, 0, x1_calm_res_sold, x1_calm_res_fallen fc, x1_calm_res_sold, x1_calm_res_fallen fc) j1).1)), (2, .int ((x0_sharpest_l44 N tk cp sh fc A H K ((-2), 0, 0, x1_calm_res_sold, x1_calm_res_fallen fc, x1_calm_res_sold, x1_calm_res_fallen fc) j1).2.1)), (3, .int (nI (fs_gone N tk cp sh fc A H K (x1_calm_res_sold, (x1_calm_res_fallen fc)) zForever))), (4, .int (((x0_sharpest_l44 N tk cp sh fc A H K ((-2), 0, 0, x1_calm_res_sold, x1_calm_res_fallen fc, x1_calm_res_sold, x1_calm_res_fallen fc) j1).2.2.1) + ((x1_lost N tk sh (fs_ns N tk cp sh fc A H K ((x0_sharpest_l44 N tk cp sh fc A H K ((-2), 0, 0, x1_calm_res_sold, x1_calm_res_fallen fc, x1_calm_res_sold, x1_calm_res_fallen fc) j1).2.2.2.1) ((x0_sharpest_l44 N tk cp sh fc A H K ((-2), 0, 0, x1_calm_res_sold, x1_calm_res_fallen fc, x1_calm_res_sold, x1_calm_res_fallen fc) j1).2.2.2.2.1)) A K) - ((x0_sharpest_l44 N tk cp sh fc A H K ((-2), 0, 0, x1_calm_res_sold, x1_calm_res_fallen fc, x1_calm_res_sold, x1_calm_res_fallen fc) j1).2.2.1)))), (5, .ref s27), (6, .ref s36), (7, .int (nI (1 + j1))), (8, .int ((x1_lost N tk sh (fs_ns N tk cp sh fc A H K ((x0_sharpest_l44 N tk cp sh fc A H K ((-2), 0, 0, x1_calm_res_sold, x1_calm_res_fallen fc, x1_calm_res_sold, x1_calm_res_fallen fc) j1).2.2.2.1) ((x0_sharpest_l44 N tk cp sh fc A H K ((-2), 0, 0, x1_calm_res_sold, x1_calm_res_fallen fc, x1_calm_res_sold, x1_calm_res_fallen fc) j1).2.2.2.2.1)) A K) - ((x0_sharpest_l44 N tk cp sh fc A H K ((-2), 0, 0, x1_calm_res_sold, x1_calm_res_fallen fc, x1_calm_res_sold, x1_calm_res_fallen fc) j1).2.2.1)))]) rfl ?_
        refine z_iload hX dX0_sharpest_89 91 rfl 8 rfl ?_
        refine z_iload_n hX dX0_sharpest_91 92 rfl (i := 2) rfl 2 rfl ?_
        have J7 : ZW g X 9 28 G 104 [(0, .ref x), (1, .int (if ((x0_sharpest_l44 N tk cp sh fc A H K ((-2), 0, 0, x1_calm_res_sold, x1_calm_res_fallen fc, x1_calm_res_sold, x1_calm_res_fallen fc) j1).2.1) < ((x1_lost N tk sh (fs_ns N tk cp sh fc A H K ((x0_sharpest_l44 N tk cp sh fc A H K ((-2), 0, 0, x1_calm_res_sold, x1_calm_res_fallen fc, x1_calm_res_sold, x1_calm_res_fallen fc) j1).2.2.2.1) ((x0_sharpest_l44 N tk cp sh fc A H K ((-2), 0, 0, x1_calm_res_sold, x1_calm_res_fallen fc, x1_calm_res_sold, x1_calm_res_fallen fc) j1).2.2.2.2.1)) A K) - ((x0_sharpest_l44 N tk cp sh fc A H K ((-2), 0, 0, x1_calm_res_sold, x1_calm_res_fallen fc, x1_calm_res_sold, x1_calm_res_fallen fc) j1).2.2.1)) then nI (1 + j1) else (x0_sharpest_l44 N tk cp sh fc A H K ((-2), 0, 0, x1_calm_res_sold, x1_calm_res_fallen fc, x1_calm_res_sold, x1_calm_res_fallen fc) j1).1 : Int32)), (2, .int (if ((x0_sharpest_l44 N tk cp sh fc A H K ((-2), 0, 0, x1_calm_res_sold, x1_calm_res_fallen fc, x1_calm_res_sold, x1_calm_res_fallen fc) j1).2.1) < ((x1_lost N tk sh (fs_ns N tk cp sh fc A H K ((x0_sharpest_l44 N tk cp sh fc A H K ((-2), 0, 0, x1_calm_res_sold, x1_calm_res_fallen fc, x1_calm_res_sold, x1_calm_res_fallen fc) j1).2.2.2.1) ((x0_sharpest_l44 N tk cp sh fc A H K ((-2), 0, 0, x1_calm_res_sold, x1_calm_res_fallen fc, x1_calm_res_sold, x1_calm_res_fallen fc) j1).2.2.2.2.1)) A K) - ((x0_sharpest_l44 N tk cp sh fc A H K ((-2), 0, 0, x1_calm_res_sold, x1_calm_res_fallen fc, x1_calm_res_sold, x1_calm_res_fallen fc) j1).2.2.1)) then (x1_lost N tk sh (fs_ns N tk cp sh fc A H K ((x0_sharpest_l44 N tk cp sh fc A H K ((-2), 0, 0, x1_calm_res_sold, x1_calm_res_fallen fc, x1_calm_res_sold, x1_calm_res_fallen fc) j1).2.2.2.1) ((x0_sharpest_l44 N tk cp sh fc A H K ((-2), 0, 0, x1_calm_res_sold, x1_calm_res_fallen fc, x1_calm_res_sold, x1_calm_res_fallen fc) j1).2.2.2.2.1)) A K) - ((x0_sharpest_l44 N tk cp sh fc A H K ((-2), 0, 0, x1_calm_res_sold, x1_calm_res_fallen fc, x1_calm_res_sold, x1_calm_res_fallen fc) j1).2.2.1) else (x0_sharpest_l44 N tk cp sh fc A H K ((-2), 0, 0, x1_calm_res_sold, x1_calm_res_fallen fc, x1_calm_res_sold, x1_calm_res_fallen fc) j1).2.1 : Int32)), (3, .int (nI (fs_gone N tk cp sh fc A H K (x1_calm_res_sold, (x1_calm_res_fallen fc)) zForever))), (4, .int (((x0_sharpest_l44 N tk cp sh fc A H K ((-2), 0, 0, x1_calm_res_sold, x1_calm_res_fallen fc, x1_calm_res_sold, x1_calm_res_fallen fc) j1).2.2.1) + ((x1_lost N tk sh (fs_ns N tk cp sh fc A H K ((x0_sharpest_l44 N tk cp sh fc A H K ((-2), 0, 0, x1_calm_res_sold, x1_calm_res_fallen fc, x1_calm_res_sold, x1_calm_res_fallen fc) j1).2.2.2.1) ((x0_sharpest_l44 N tk cp sh fc A H K ((-2), 0, 0, x1_calm_res_sold, x1_calm_res_fallen fc, x1_calm_res_sold, x1_calm_res_fallen fc) j1).2.2.2.2.1)) A K) - ((x0_sharpest_l44 N tk cp sh fc A H K ((-2), 0, 0, x1_calm_res_sold, x1_calm_res_fallen fc, x1_calm_res_sold, x1_calm_res_fallen fc) j1).2.2.1)))), (5, .ref s27), (6, .ref s36), (7, .int (nI (1 + j1))), (8, .int ((x1_lost N tk sh (fs_ns N tk cp sh fc A H K ((x0_sharpest_l44 N tk cp sh fc A H K ((-2), 0, 0, x1_calm_res_sold, x1_calm_res_fallen fc, x1_calm_res_sold, x1_calm_res_fallen fc) j1).2.2.2.1) ((x0_sharpest_l44 N tk cp sh fc A H K ((-2), 0, 0, x1_calm_res_sold, x1_calm_res_fallen fc, x1_calm_res_sold, x1_calm_res_fallen fc) j1).2.2.2.2.1)) A K) - ((x0_sharpest_l44 N tk cp sh fc A H K ((-2), 0, 0, x1_calm_res_sold, x1_calm_res_fallen fc, x1_calm_res_sold, x1_calm_res_fallen fc) j1).2.2.1)))] [] := by
          refine z_iinc hX dX0_sharpest_104 107 rfl 7 rfl (w := nI (1 + j1 + 1)) (nI_1 (1 + j1)) (Nat.le_of_ble_eq_true rfl) rfl (L' := [(0, .ref x), (1, .int (if ((x0_sharpest_l44 N tk cp sh fc A H K ((-2), 0, 0, x1_calm_res_sold, x1_calm_res_fallen fc, x1_calm_res_sold, x1_calm_res_fallen fc) j1).2.1) < ((x1_lost N tk sh (fs_ns N tk cp sh fc A H K ((x0_sharpest_l44 N tk cp sh fc A H K ((-2), 0, 0, x1_calm_res_sold, x1_calm_res_fallen fc, x1_calm_res_sold, x1_calm_res_fallen fc) j1).2.2.2.1) ((x0_sharpest_l44 N tk cp sh fc A H K ((-2), 0, 0, x1_calm_res_sold, x1_calm_res_fallen fc, x1_calm_res_sold, x1_calm_res_fallen fc) j1).2.2.2.2.1)) A K) - ((x0_sharpest_l44 N tk cp sh fc A H K ((-2), 0, 0, x1_calm_res_sold, x1_calm_res_fallen fc, x1_calm_res_sold, x1_calm_res_fallen fc) j1).2.2.1)) then nI (1 + j1) else (x0_sharpest_l44 N tk cp sh fc A H K ((-2), 0, 0, x1_calm_res_sold, x1_calm_res_fallen fc, x1_calm_res_sold, x1_calm_res_fallen fc) j1).1 : Int32)), (2, .int (if ((x0_sharpest_l44 N tk cp sh fc A H K ((-2), 0, 0, x1_calm_res_sold, x1_calm_res_fallen fc, x1_calm_res_sold, x1_calm_res_fallen fc) j1).2.1) < ((x1_lost N tk sh (fs_ns N tk cp sh fc A H K ((x0_sharpest_l44 N tk cp sh fc A H K ((-2), 0, 0, x1_calm_res_sold, x1_calm_res_fallen fc, x1_calm_res_sold, x1_calm_res_fallen fc) j1).2.2.2.1) ((x0_sharpest_l44 N tk cp sh fc A H K ((-2), 0, 0, x1_calm_res_sold, x1_calm_res_fallen fc, x1_calm_res_sold, x1_calm_res_fallen fc) j1).2.2.2.2.1)) A K) - ((x0_sharpest_l44 N tk cp sh fc A H K ((-2), 0, 0, x1_calm_res_sold, x1_calm_res_fallen fc, x1_calm_res_sold, x1_calm_res_fallen fc) j1).2.2.1)) then (x1_lost N tk sh (fs_ns N tk cp sh fc A H K ((x0_sharpest_l44 N tk cp sh fc A H K ((-2), 0, 0, x1_calm_res_sold, x1_calm_res_fallen fc, x1_calm_res_sold, x1_calm_res_fallen fc) j1).2.2.2.1) ((x0_sharpest_l44 N tk cp sh fc A H K ((-2), 0, 0, x1_calm_res_sold, x1_calm_res_fallen fc, x1_calm_res_sold, x1_calm_res_fallen fc) j1).2.2.2.2.1)) A K) - ((x0_sharpest_l44 N tk cp sh fc A H K ((-2), 0, 0, x1_calm_res_sold, x1_calm_res_fallen fc, x1_calm_res_sold, x1_calm_res_fallen fc) j1).2.2.1) else (x0_sharpest_l44 N tk cp sh fc A H K ((-2), 0, 0, x1_calm_res_sold, x1_calm_res_fallen fc, x1_calm_res_sold, x1_calm_res_fallen fc) j1).2.1 : Int32)), (3, .int (nI (fs_gone N tk cp sh fc A H K (x1_calm_res_sold, (x1_calm_res_fallen fc)) zForever))), (4, .int (((x0_sharpest_l44 N tk cp sh fc A H K ((-2), 0, 0, x1_calm_res_sold, x1_calm_res_fallen fc, x1_calm_res_sold, x1_calm_res_fallen fc) j1).2.2.1) + ((x1_lost N tk sh (fs_ns N tk cp sh fc A H K ((x0_sharpest_l44 N tk cp sh fc A H K ((-2), 0, 0, x1_calm_res_sold, x1_calm_res_fallen fc, x1_calm_res_sold, x1_calm_res_fallen fc) j1).2.2.2.1) ((x0_sharpest_l44 N tk cp sh fc A H K ((-2), 0, 0, x1_calm_res_sold, x1_calm_res_fallen fc, x1_calm_res_sold, x1_calm_res_fallen fc) j1).2.2.2.2.1)) A K) - ((x0_sharpest_l44 N tk cp sh fc A H K ((-2), 0, 0, x1_calm_res_sold, x1_calm_res_fallen fc, x1_calm_res_sold, x1_calm_res_fallen fc) j1).2.2.1)))), (5, .ref s27), (6, .ref s36), (7, .int (nI (1 + j1 + 1))), (8, .int ((x1_lost N tk sh (fs_ns N tk cp sh fc A H K ((x0_sharpest_l44 N tk cp sh fc A H K ((-2), 0, 0, x1_calm_res_sold, x1_calm_res_fallen fc, x1_calm_res_sold, x1_calm_res_fallen fc) j1).2.2.2.1) ((x0_sharpest_l44 N tk cp sh fc A H K ((-2), 0, 0, x1_calm_res_sold, x1_calm_res_fallen fc, x1_calm_res_sold, x1_calm_res_fallen fc) j1).2.2.2.2.1)) A K) - ((x0_sharpest_l44 N tk cp sh fc A H K ((-2), 0, 0, x1_calm_res_sold, x1_calm_res_fallen fc, x1_calm_res_sold, x1_calm_res_fallen fc) j1).2.2.1)))]) rfl ?_
          refine z_goto hX dX0_sharpest_107 (tgt := 44) (by decide) ?_
          refine z_sub [0, 1, 2, 3, 4, 5, 6, 7] rfl ?_
          exact ih (j1 + 1) (by omega) _ hM
        refine z_icmp_gt hX dX0_sharpest_92 95 rfl (tgt := 98) (by decide) (fun c6 => ?_) (fun c6 => ?_)
        ·
          refine z_iload hX dX0_sharpest_98 100 rfl 8 rfl ?_
          refine z_istore_n hX dX0_sharpest_100 101 rfl (i := 2) rfl (Nat.le_of_ble_eq_true rfl) rfl (L' := [(0, .ref x), (1, .int ((x0_sharpest_l44 N tk cp sh fc A H K ((-2), 0, 0, x1_calm_res_sold, x1_calm_res_fallen fc, x1_calm_res_sold, x1_calm_res_fallen fc) j1).1)), (2, .int ((x1_lost N tk sh (fs_ns N tk cp sh fc A H K ((x0_sharpest_l44 N tk cp sh fc A H K ((-2), 0, 0, x1_calm_res_sold, x1_calm_res_fallen fc, x1_calm_res_sold, x1_calm_res_fallen fc) j1).2.2.2.1) ((x0_sharpest_l44 N tk cp sh fc A H K ((-2), 0, 0, x1_calm_res_sold, x1_calm_res_fallen fc, x1_calm_res_sold, x1_calm_res_fallen fc) j1).2.2.2.2.1)) A K) - ((x0_sharpest_l44 N tk cp sh fc A H K ((-2), 0, 0, x1_calm_res_sold, x1_calm_res_fallen fc, x1_calm_res_sold, x1_calm_res_fallen fc) j1).2.2.1))), (3, .int (nI (fs_gone N tk cp sh fc A H K (x1_calm_res_sold, (x1_calm_res_fallen fc)) zForever))), (4, .int (((x0_sharpest_l44 N tk cp sh fc A H K ((-2), 0, 0, x1_calm_res_sold, x1_calm_res_fallen fc, x1_calm_res_sold, x1_calm_res_fallen fc) j1).2.2.1) + ((x1_lost N tk sh (fs_ns N tk cp sh fc A H K ((x0_sharpest_l44 N tk cp sh fc A H K ((-2), 0, 0, x1_calm_res_sold, x1_calm_res_fallen fc, x1_calm_res_sold, x1_calm_res_fallen fc) j1).2.2.2.1) ((x0_sharpest_l44 N tk cp sh fc A H K ((-2), 0, 0, x1_calm_res_sold, x1_calm_res_fallen fc, x1_calm_res_sold, x1_calm_res_fallen fc) j1).2.2.2.2.1)) A K) - ((x0_sharpest_l44 N tk cp sh fc A H K ((-2), 0, 0, x1_calm_res_sold, x1_calm_res_fallen fc, x1_calm_res_sold, x1_calm_res_fallen fc) j1).2.2.1)))), (5, .ref s27), (6, .ref s36), (7, .int (nI (1 + j1))), (8, .int ((x1_lost N tk sh (fs_ns N tk cp sh fc A H K ((x0_sharpest_l44 N tk cp sh fc A H K ((-2), 0, 0, x1_calm_res_sold, x1_calm_res_fallen fc, x1_calm_res_sold, x1_calm_res_fallen fc) j1).2.2.2.1) ((x0_sharpest_l44 N tk cp sh fc A H K ((-2), 0, 0, x1_calm_res_sold, x1_calm_res_fallen fc, x1_calm_res_sold, x1_calm_res_fallen fc) j1).2.2.2.2.1)) A K) - ((x0_sharpest_l44 N tk cp sh fc A H K ((-2), 0, 0, x1_calm_res_sold, x1_calm_res_fallen fc, x1_calm_res_sold, x1_calm_res_fallen fc) j1).2.2.1)))]) rfl ?_
          refine z_iload hX dX0_sharpest_101 103 rfl 7 rfl ?_
          refine z_istore_n hX dX0_sharpest_103 104 rfl (i := 1) rfl (Nat.le_of_ble_eq_true rfl) rfl (L' := [(0, .ref x), (1, .int (nI (1 + j1))), (2, .int ((x1_lost N tk sh (fs_ns N tk cp sh fc A H K ((x0_sharpest_l44 N tk cp sh fc A H K ((-2), 0, 0, x1_calm_res_sold, x1_calm_res_fallen fc, x1_calm_res_sold, x1_calm_res_fallen fc) j1).2.2.2.1) ((x0_sharpest_l44 N tk cp sh fc A H K ((-2), 0, 0, x1_calm_res_sold, x1_calm_res_fallen fc, x1_calm_res_sold, x1_calm_res_fallen fc) j1).2.2.2.2.1)) A K) - ((x0_sharpest_l44 N tk cp sh fc A H K ((-2), 0, 0, x1_calm_res_sold, x1_calm_res_fallen fc, x1_calm_res_sold, x1_calm_res_fallen fc) j1).2.2.1))), (3, .int (nI (fs_gone N tk cp sh fc A H K (x1_calm_res_sold, (x1_calm_res_fallen fc)) zForever))), (4, .int (((x0_sharpest_l44 N tk cp sh fc A H K ((-2), 0, 0, x1_calm_res_sold, x1_calm_res_fallen fc, x1_calm_res_sold, x1_calm_res_fallen fc) j1).2.2.1) + ((x1_lost N tk sh (fs_ns N tk cp sh fc A H K ((x0_sharpest_l44 N tk cp sh fc A H K ((-2), 0, 0, x1_calm_res_sold, x1_calm_res_fallen fc, x1_calm_res_sold, x1_calm_res_fallen fc) j1).2.2.2.1) ((x0_sharpest_l44 N tk cp sh fc A H K ((-2), 0, 0, x1_calm_res_sold, x1_calm_res_fallen fc, x1_calm_res_sold, x1_calm_res_fallen fc) j1).2.2.2.2.1)) A K) - ((x0_sharpest_l44 N tk cp sh fc A H K ((-2), 0, 0, x1_calm_res_sold, x1_calm_res_fallen fc, x1_calm_res_sold, x1_calm_res_fallen fc) j1).2.2.1)))), (5, .ref s27), (6, .ref s36), (7, .int (nI (1 + j1))), (8, .int ((x1_lost N tk sh (fs_ns N tk cp sh fc A H K ((x0_sharpest_l44 N tk cp sh fc A H K ((-2), 0, 0, x1_calm_res_sold, x1_calm_res_fallen fc, x1_calm_res_sold, x1_calm_res_fallen fc) j1).2.2.2.1) ((x0_sharpest_l44 N tk cp sh fc A H K ((-2), 0, 0, x1_calm_res_sold, x1_calm_res_fallen fc, x1_calm_res_sold, x1_calm_res_fallen fc) j1).2.2.2.2.1)) A K) - ((x0_sharpest_l44 N tk cp sh fc A H K ((-2), 0, 0, x1_calm_res_sold, x1_calm_res_fallen fc, x1_calm_res_sold, x1_calm_res_fallen fc) j1).2.2.1)))]) rfl ?_
          exact z_eqL (by first | (simp only [if_pos c6] <;> rfl; done) | grind) rfl J7
        ·
          refine z_goto hX dX0_sharpest_95 (tgt := 104) (by decide) ?_
          exact z_eqL (by first | (simp only [if_neg c6] <;> rfl; done) | grind) rfl J7
  have hM : zFx G xq x t dq tp bg bl tpd ∧ zTw g G q t B N tk cp sh fc (x1_rounds_gn N tk cp sh fc x1_calm_res_sold (x1_calm_res_fallen fc) A H K) ∧ zSt g G (ns13, 0) s13 bs13 x1_calm_res_sold (x1_calm_res_fallen fc) ∧ zSt g G (ns27, 0) s27 bs27 ((x0_sharpest_l44 N tk cp sh fc A H K ((-2), 0, 0, x1_calm_res_sold, x1_calm_res_fallen fc, x1_calm_res_sold, x1_calm_res_fallen fc) 0).2.2.2.1) ((x0_sharpest_l44 N tk cp sh fc A H K ((-2), 0, 0, x1_calm_res_sold, x1_calm_res_fallen fc, x1_calm_res_sold, x1_calm_res_fallen fc) 0).2.2.2.2.1) ∧ zSt g G (ns36, 0) s36 bs36 ((x0_sharpest_l44 N tk cp sh fc A H K ((-2), 0, 0, x1_calm_res_sold, x1_calm_res_fallen fc, x1_calm_res_sold, x1_calm_res_fallen fc) 0).2.2.2.2.2.1) ((x0_sharpest_l44 N tk cp sh fc A H K ((-2), 0, 0, x1_calm_res_sold, x1_calm_res_fallen fc, x1_calm_res_sold, x1_calm_res_fallen fc) 0).2.2.2.2.2.2) ∧ zFrK [(q, 0), (q, 1), (q, 2)] G0 G := by simpa only [x0_sharpest_l44_0] using hM
  exact Lp3 (fs_gone N tk cp sh fc A H K (x1_calm_res_sold, (x1_calm_res_fallen fc)) zForever) 0 (by omega) _ hM
noncomputable def x0_withCoins_gn (N : Nat → Int32) (tk : Nat → Int32) (cp : Nat → Int32) (sh : Nat → Int32) (fc : Int32) (A : Nat) (H : Nat) (K : Nat → Nat) (h : Nat) (c : Int32) : Int32 := x1_least_gn (upd N (10 + (5 * h)) ((N (10 + (5 * h))) + c)) tk cp sh fc A H K
noncomputable def x0_withCoins_res_sold (N : Nat → Int32) (tk : Nat → Int32) (cp : Nat → Int32) (sh : Nat → Int32) (fc : Int32) (A : Nat) (H : Nat) (K : Nat → Nat) (h : Nat) (c : Int32) : Nat → Int32 := x1_least_res_sold (upd N (10 + (5 * h)) ((N (10 + (5 * h))) + c)) tk cp sh fc A H K
noncomputable def x0_withCoins_res_fallen (N : Nat → Int32) (tk : Nat → Int32) (cp : Nat → Int32) (sh : Nat → Int32) (fc : Int32) (A : Nat) (H : Nat) (K : Nat → Nat) (h : Nat) (c : Int32) : Int32 := x1_least_res_fallen (upd N (10 + (5 * h)) ((N (10 + (5 * h))) + c)) tk cp sh fc A H K
set_option maxHeartbeats 4000000 in
theorem met_X0_withCoins {g : Zg} (hG : zG g) {G0 : zHG} {xq x nw dq tp : Nat} {bg : Value} {bl tpd : Int32} {q t : Nat} {B : Nat → Nat → Nat} {N tk cp sh : Nat → Int32} {fc gn : Int32} (hx : zFx G0 xq x nw dq tp bg bl tpd) (ht : zTw g G0 q t B N tk cp sh fc gn) {A H : Nat} {K : Nat → Nat} (hN : zWf N A H K) (ne_x_t_00 : (xq, 0) ≠ (q, 0)) (ne_x_t_01 : (xq, 0) ≠ (q, 1)) (ne_x_t_02 : (xq, 0) ≠ (q, 2)) (h : Nat) (c : Int32) (h_h : h < H)  : ZM g yX0_withCoins cX0_withCoins 5 (some (FieldType.object "FireSale$State")) 9 5 16 [.ref x, .ref t, .int (nI h), .int c] G0 (fun r G' => ∃ nR sR bR : Nat, zFresh G0 nR ∧ r = some (.ref sR) ∧ (zFx G' xq x nw dq tp bg bl tpd ∧ zTw g G' q t B N tk cp sh fc (x0_withCoins_gn N tk cp sh fc A H K h c) ∧ zSt g G' (nR, 0) sR bR (x0_withCoins_res_sold N tk cp sh fc A H K h c) (x0_withCoins_res_fallen N tk cp sh fc A H K h c) ∧ zFrK [(q, 0), (q, 1), (q, 2)] G0 G')) := by
  unfold x0_withCoins_gn x0_withCoins_res_sold x0_withCoins_res_fallen
  have hN2 := hN.2.1
  have hN4 := hN.2.2.2.1
  refine ZM_mk hG (by decide) (Nat.le_of_ble_eq_true rfl) ?_
  intro X hX hname hQ
  obtain ⟨G, hGe⟩ : ∃ z, z = G0 := ⟨_, rfl⟩
  have hM : zFx G xq x nw dq tp bg bl tpd ∧ zTw g G q t B N tk cp sh fc gn ∧ zFrK [(q, 0), (q, 1), (q, 2)] G0 G := by rw [hGe]; exact ⟨hx, ht, zFrK.rf⟩
  show ZW g X 0 0 G0 0 [(0, .ref x), (1, .ref t), (2, .int (nI h)), (3, .int c)] []
  rw [← hGe]
  refine z_aload_n hX dX0_withCoins_0 1 rfl (i := 1) rfl 1 rfl ?_
  obtain ⟨opr, os1, os2, of1, of2, ob1, ob2, hT9, h19, h29⟩ := id hM.2.1
  refine z_getfN hX fX0_67 hT9.o dX0_withCoins_1 4 rfl (x := .ref (B 2 0)) rfl ?_
  refine z_iload_n hX dX0_withCoins_4 5 rfl (i := 2) rfl 2 rfl ?_
  obtain ⟨opr, os1, os2, of1, of2, ob1, ob2, hT9, h19, h29⟩ := id hM.2.1
  refine z_aaldF hX 2 rfl rfl hT9.o0 (j := h) (by omega) (by decide) rfl dX0_withCoins_5 6 rfl ?_
  refine z_iconst hX dX0_withCoins_6 7 rfl zki_0 ?_
  refine z_dup2_11 hX dX0_withCoins_7 8 rfl rfl rfl ?_
  obtain ⟨opr, os1, os2, of1, of2, ob1, ob2, hT9, h19, h29⟩ := id hM.2.1
  refine z_ialdF hX (hT9.fo h (by omega)) (j := 0) (by omega) (by decide) dX0_withCoins_8 9 rfl (w := N (10 + (5 * h))) rfl ?_
  refine z_iload_n hX dX0_withCoins_9 10 rfl (i := 3) rfl 3 rfl ?_
  refine z_iadd hX dX0_withCoins_10 11 rfl (w := (N (10 + (5 * h))) + c) rfl ?_
  obtain ⟨opr, os1, os2, of1, of2, ob1, ob2, hT9, h19, h29⟩ := id hM.2.1
  refine t_ast_of hX hT9 h 0 (by omega) (by omega) dX0_withCoins_11 12 rfl (fun G hw hf => ?_)
  have hw := (⟨opr, os1, os2, of1, of2, ob1, ob2, hw, h19.kp (hf.kp (zni1 (zkr (by decide)) zni0)), h29.kp (hf.kp (zni1 (zkr (by decide)) zni0))⟩ : zTw g G q t B (upd N (10 + (5 * h)) ((N (10 + (5 * h))) + c)) tk cp sh fc gn)
  have hM : zFx G xq x nw dq tp bg bl tpd ∧ zTw g G q t B (upd N (10 + (5 * h)) ((N (10 + (5 * h))) + c)) tk cp sh fc gn ∧ zFrK [(q, 0), (q, 1), (q, 2)] G0 G := ⟨hM.1.kp (hf.kp (zni1 ne_x_t_00 zni0)), hw, hM.2.2.step hf List.mem_cons_self⟩
  refine z_aload_n hX dX0_withCoins_12 13 rfl (i := 1) rfl 1 rfl ?_
  obtain ⟨fs9, ho9⟩ := hM.2.1.o
  refine z_callV hX cwX0_141 (met_X1_least hG hM.2.1 (zWf_updH hN (by omega) (by omega) (fun _ _ => by omega))) ho9 rfl rfl dX0_withCoins_13 16 rfl rfl rfl (Nat.le_of_ble_eq_true rfl) (by decide) ⟨by omega, by omega⟩ (fun r G hP => ?_)
  obtain ⟨ns13, s13, bs13, hzs13, rfl, hP⟩ := hP
  have ne_x_s13 : (xq, 0) ≠ (ns13, 0) := hzs13.neT hM.1.o
  obtain ⟨fs9, ho9⟩ := hM.2.1.o
  have ne_t_s13_0 : (q, 0) ≠ (ns13, 0) := hzs13.neT ho9
  have ne_t_s13_1 : (q, 1) ≠ (ns13, 0) := hzs13.neT ho9
  have ne_t_s13_2 : (q, 2) ≠ (ns13, 0) := hzs13.neT ho9
  have nq_t_s13 : q ≠ ns13 := hzs13 _ _ _ ho9
  have fn_s13 : zFresh G0 ns13 := hzs13.of' hM.2.2 (zfm1 nq_t_s13 (zfm1 nq_t_s13 (zfm1 nq_t_s13 zfm0)))
  have hM : zFx G xq x nw dq tp bg bl tpd ∧ zTw g G q t B (upd N (10 + (5 * h)) ((N (10 + (5 * h))) + c)) tk cp sh fc (x1_least_gn (upd N (10 + (5 * h)) ((N (10 + (5 * h))) + c)) tk cp sh fc A H K) ∧ zSt g G (ns13, 0) s13 bs13 (x1_least_res_sold (upd N (10 + (5 * h)) ((N (10 + (5 * h))) + c)) tk cp sh fc A H K) (x1_least_res_fallen (upd N (10 + (5 * h)) ((N (10 + (5 * h))) + c)) tk cp sh fc A H K) ∧ zFrK [(q, 0), (q, 1), (q, 2)] G0 G := ⟨hM.1.kp (hP.2.2.kp (zni1 ne_x_t_00 (zni1 ne_x_t_01 (zni1 ne_x_t_02 zni0)))), hP.1, hP.2.1, hM.2.2.stepL hP.2.2 (zml1 (Or.inl List.mem_cons_self) (zml1 (Or.inl (List.mem_cons_of_mem _ List.mem_cons_self)) (zml1 (Or.inl (List.mem_cons_of_mem _ (List.mem_cons_of_mem _ List.mem_cons_self))) zml0)))⟩
  show ZW g X 5 16 G 16 [(0, .ref x), (1, .ref t), (2, .int (nI h)), (3, .int c)] [.ref s13]
  refine z_astore hX dX0_withCoins_16 18 rfl (Nat.le_of_ble_eq_true rfl) rfl (L' := [(0, .ref x), (1, .ref t), (2, .int (nI h)), (3, .int c), (4, .ref s13)]) rfl ?_
  refine z_aload_n hX dX0_withCoins_18 19 rfl (i := 1) rfl 1 rfl ?_
  obtain ⟨opr, os1, os2, of1, of2, ob1, ob2, hT9, h19, h29⟩ := id hM.2.1
  refine z_getfN hX fX0_67 hT9.o dX0_withCoins_19 22 rfl (x := .ref (B 2 0)) rfl ?_
  refine z_iload_n hX dX0_withCoins_22 23 rfl (i := 2) rfl 2 rfl ?_
  obtain ⟨opr, os1, os2, of1, of2, ob1, ob2, hT9, h19, h29⟩ := id hM.2.1
  refine z_aaldF hX 2 rfl rfl hT9.o0 (j := h) (by omega) (by decide) rfl dX0_withCoins_23 24 rfl ?_
  refine z_iconst hX dX0_withCoins_24 25 rfl zki_0 ?_
  refine z_dup2_11 hX dX0_withCoins_25 26 rfl rfl rfl ?_
  obtain ⟨opr, os1, os2, of1, of2, ob1, ob2, hT9, h19, h29⟩ := id hM.2.1
  refine z_ialdF hX (hT9.fo h (by omega)) (j := 0) (by omega) (by decide) dX0_withCoins_26 27 rfl (w := ((N (10 + (5 * h))) + c)) pk_us ?_
  refine z_iload_n hX dX0_withCoins_27 28 rfl (i := 3) rfl 3 rfl ?_
  refine z_isub hX dX0_withCoins_28 29 rfl (w := ((N (10 + (5 * h))) + c) - c) rfl ?_
  obtain ⟨opr, os1, os2, of1, of2, ob1, ob2, hT9, h19, h29⟩ := id hM.2.1
  refine t_ast_of hX hT9 h 0 (by omega) (by omega) dX0_withCoins_29 30 rfl (fun G hw hf => ?_)
  have hw := (⟨opr, os1, os2, of1, of2, ob1, ob2, hw, h19.kp (hf.kp (zni1 (zkr (by decide)) zni0)), h29.kp (hf.kp (zni1 (zkr (by decide)) zni0))⟩ : zTw g G q t B (upd (upd N (10 + (5 * h)) ((N (10 + (5 * h))) + c)) (10 + (5 * h)) (((N (10 + (5 * h))) + c) - c)) tk cp sh fc (x1_least_gn (upd N (10 + (5 * h)) ((N (10 + (5 * h))) + c)) tk cp sh fc A H K))
  have hM : zFx G xq x nw dq tp bg bl tpd ∧ zTw g G q t B (upd (upd N (10 + (5 * h)) ((N (10 + (5 * h))) + c)) (10 + (5 * h)) (((N (10 + (5 * h))) + c) - c)) tk cp sh fc (x1_least_gn (upd N (10 + (5 * h)) ((N (10 + (5 * h))) + c)) tk cp sh fc A H K) ∧ zSt g G (ns13, 0) s13 bs13 (x1_least_res_sold (upd N (10 + (5 * h)) ((N (10 + (5 * h))) + c)) tk cp sh fc A H K) (x1_least_res_fallen (upd N (10 + (5 * h)) ((N (10 + (5 * h))) + c)) tk cp sh fc A H K) ∧ zFrK [(q, 0), (q, 1), (q, 2)] G0 G := ⟨hM.1.kp (hf.kp (zni1 ne_x_t_00 zni0)), hw, hM.2.2.1.kp (hf.kp (zni1 (Ne.symm ne_t_s13_0) zni0)), hM.2.2.2.step hf List.mem_cons_self⟩
  have hM : zFx G xq x nw dq tp bg bl tpd ∧ zTw g G q t B N tk cp sh fc (x1_least_gn (upd N (10 + (5 * h)) ((N (10 + (5 * h))) + c)) tk cp sh fc A H K) ∧ zSt g G (ns13, 0) s13 bs13 (x1_least_res_sold (upd N (10 + (5 * h)) ((N (10 + (5 * h))) + c)) tk cp sh fc A H K) (x1_least_res_fallen (upd N (10 + (5 * h)) ((N (10 + (5 * h))) + c)) tk cp sh fc A H K) ∧ zFrK [(q, 0), (q, 1), (q, 2)] G0 G := by rw [upd_back N (10 + (5 * h)) c] at hM; exact hM
  refine z_aload hX dX0_withCoins_30 32 rfl 4 rfl ?_
  have hM : zFx G xq x nw dq tp bg bl tpd ∧ zTw g G q t B N tk cp sh fc (x1_least_gn (upd N (10 + (5 * h)) ((N (10 + (5 * h))) + c)) tk cp sh fc A H K) ∧ zSt g G (ns13, 0) s13 bs13 (x1_least_res_sold (upd N (10 + (5 * h)) ((N (10 + (5 * h))) + c)) tk cp sh fc A H K) (x1_least_res_fallen (upd N (10 + (5 * h)) ((N (10 + (5 * h))) + c)) tk cp sh fc A H K) ∧ zFrK [(q, 0), (q, 1), (q, 2)] G0 G := ⟨hM.1, hM.2.1, hM.2.2.1, hM.2.2.2⟩
  exact z_aret hX hQ (by omega) (by omega) rfl (Or.inl ⟨_, rfl⟩) dX0_withCoins_32 ⟨_, _, _, fn_s13, rfl, hM⟩
noncomputable def x0_rescue (N : Nat → Int32) (tk : Nat → Int32) (cp : Nat → Int32) (sh : Nat → Int32) (fc : Int32) (A : Nat) (H : Nat) (K : Nat → Nat) (house : Int32) (coins : Int32) (what : Int32) : Int32 := (if zin house H then (if zin coins 10000 then (if zin what 8 then x1_tells N tk sh (x0_withCoins_res_sold N tk cp sh fc A H K house.toNatClampNeg (nI coins.toNatClampNeg)) (x0_withCoins_res_fallen N tk cp sh fc A H K house.toNatClampNeg (nI coins.toNatClampNeg)) A K (nI what.toNatClampNeg) else (-1) : Int32) else (-1) : Int32) else (-1) : Int32)
noncomputable def x0_rescue_gn (N : Nat → Int32) (tk : Nat → Int32) (cp : Nat → Int32) (sh : Nat → Int32) (fc : Int32) (gn : Int32) (A : Nat) (H : Nat) (K : Nat → Nat) (house : Int32) (coins : Int32) (what : Int32) : Int32 := if zin house H then if zin coins 10000 then if zin what 8 then x0_withCoins_gn N tk cp sh fc A H K house.toNatClampNeg (nI coins.toNatClampNeg) else gn else gn else gn
set_option maxHeartbeats 4000000 in
theorem met_X0_rescue {g : Zg} (hG : zG g) {G0 : zHG} {xq x dq tp : Nat} {bg : Value} {bl tpd : Int32} {q t : Nat} {B : Nat → Nat → Nat} {N tk cp sh : Nat → Int32} {fc gn : Int32} (hx : zFx G0 xq x t dq tp bg bl tpd) (ht : zTw g G0 q t B N tk cp sh fc gn) {A H : Nat} {K : Nat → Nat} (hN : zWf N A H K) (ne_x_t_00 : (xq, 0) ≠ (q, 0)) (ne_x_t_01 : (xq, 0) ≠ (q, 1)) (ne_x_t_02 : (xq, 0) ≠ (q, 2)) (house : Int32) (coins : Int32) (what : Int32)  : ZM g yX0_rescue cX0_rescue 4 (some FieldType.int) 10 5 16 [.ref x, .int house, .int coins, .int what] G0 (fun r G' => r = some (.int (x0_rescue N tk cp sh fc A H K house coins what)) ∧ (zFx G' xq x t dq tp bg bl tpd ∧ zTw g G' q t B N tk cp sh fc (x0_rescue_gn N tk cp sh fc gn A H K house coins what) ∧ zFrK [(q, 0), (q, 1), (q, 2)] G0 G')) := by
  unfold x0_rescue x0_rescue_gn
  have hN2 := hN.2.1
  have hN4 := hN.2.2.2.1
  refine ZM_mk hG (by decide) (Nat.le_of_ble_eq_true rfl) ?_
  intro X hX hname hQ
  obtain ⟨G, hGe⟩ : ∃ z, z = G0 := ⟨_, rfl⟩
  have hM : zFx G xq x t dq tp bg bl tpd ∧ zTw g G q t B N tk cp sh fc gn ∧ zFrK [(q, 0), (q, 1), (q, 2)] G0 G := by rw [hGe]; exact ⟨hx, ht, zFrK.rf⟩
  show ZW g X 0 0 G0 0 [(0, .ref x), (1, .int house), (2, .int coins), (3, .int what)] []
  rw [← hGe]
  refine z_aload_n hX dX0_rescue_0 1 rfl (i := 0) rfl 0 rfl ?_
  refine z_getf hX fX0_10 hM.1.o dX0_rescue_1 4 rfl (x := .ref t) rfl ?_
  refine z_iload_n hX dX0_rescue_4 5 rfl (i := 1) rfl 1 rfl ?_
  obtain ⟨opr, os1, os2, of1, of2, ob1, ob2, hT9, h19, h29⟩ := id hM.2.1
  refine z_callVp hX cwX0_72 (w := .int (if zin house H then 1 else 0 : Int32)) (met_X1_isHouse hG hT9 hN house) hT9.o rfl rfl dX0_rescue_5 8 rfl rfl rfl (Nat.le_of_ble_eq_true rfl) (by decide) ⟨Nat.zero_le _, Nat.zero_le _⟩ ?_
  have J2 : ∀ G : zHG, zFx G xq x t dq tp bg bl tpd ∧ zTw g G q t B N tk cp sh fc (if zin house H then if zin coins 10000 then if zin what 8 then x0_withCoins_gn N tk cp sh fc A H K house.toNatClampNeg (nI coins.toNatClampNeg) else gn else gn else gn) ∧ zFrK [(q, 0), (q, 1), (q, 2)] G0 G → ZW g X 5 16 G 57 [(0, .ref x)] [.int (if zin house H then (if zin coins 10000 then (if zin what 8 then x1_tells N tk sh (x0_withCoins_res_sold N tk cp sh fc A H K house.toNatClampNeg (nI coins.toNatClampNeg)) (x0_withCoins_res_fallen N tk cp sh fc A H K house.toNatClampNeg (nI coins.toNatClampNeg)) A K (nI what.toNatClampNeg) else (-1) : Int32) else (-1) : Int32) else (-1) : Int32)] := by
    intro G hM
    exact z_iret hX hQ (by omega) (by omega) rfl dX0_rescue_57 ⟨rfl, hM⟩
  refine z_if_eqP hX (zin house H) dX0_rescue_8 11 rfl (tgt := 56) (by decide) (fun c1 => ?_) (fun c1 => ?_)
  ·
    refine z_iconst hX dX0_rescue_56 57 rfl zki_m1 ?_
    refine z_sub [0] rfl ?_
    refine z_widen (u' := 5) (v' := 16) (by omega) (by omega) ?_
    exact z_eqL rfl (by first | (simp only [if_neg c1] <;> rfl; done) | grind) (J2 _ (by first | (simpa only [if_neg c1] using hM) | ((try simp only [if_neg c1]); exact hM)))
  ·
    have e_house := zin_eq c1
    have l_house := zin_lt c1
    refine z_eqL (L' := [(0, .ref x), (1, .int (nI house.toNatClampNeg)), (2, .int coins), (3, .int what)]) (st' := []) (by rw [← e_house]) (by first | rfl | rw [← e_house]) ?_
    refine z_iload_n hX dX0_rescue_11 12 rfl (i := 2) rfl 2 rfl ?_
    refine z_i2l hX dX0_rescue_12 13 rfl (w := (coins).toInt64) (by first | rfl | decide) ?_
    refine z_lconst hX dX0_rescue_13 14 rfl (w := 0) rfl ?_
    refine z_ldc2 hX q418 dX0_rescue_14 17 rfl ?_
    refine z_eqL (L' := [(0, .ref x), (1, .int (nI house.toNatClampNeg)), (2, .int coins), (3, .int what)]) (st' := [.long ((9999 : Int32).toInt64), .long ((0 : Int32).toInt64), .long ((coins).toInt64)]) rfl (by rfl) ?_
    refine z_callSp hX cwX0_45 (w := .int (if zin coins 10000 then 1 else 0 : Int32)) (met_X0_inz hG coins 9999 10000 (by decide)) dX0_rescue_17 20 rfl rfl rfl (Nat.le_of_ble_eq_true rfl) (by decide) ⟨Nat.zero_le _, Nat.zero_le _⟩ ?_
    refine z_if_eqP hX (zin coins 10000) dX0_rescue_20 23 rfl (tgt := 56) (by decide) (fun c3 => ?_) (fun c3 => ?_)
    ·
      refine z_iconst hX dX0_rescue_56 57 rfl zki_m1 ?_
      refine z_sub [0] rfl ?_
      refine z_widen (u' := 5) (v' := 16) (by omega) (by omega) ?_
      exact z_eqL rfl (by first | (simp only [if_pos c1, if_neg c3] <;> rfl; done) | grind) (J2 _ (by first | (simpa only [if_pos c1, if_neg c3] using hM) | ((try simp only [if_pos c1]); (try simp only [if_neg c3]); exact hM)))
    ·
      have e_coins := zin_eq c3
      have l_coins := zin_lt c3
      refine z_eqL (L' := [(0, .ref x), (1, .int (nI house.toNatClampNeg)), (2, .int (nI coins.toNatClampNeg)), (3, .int what)]) (st' := []) (by rw [← e_coins]) (by first | rfl | rw [← e_coins]) ?_
      refine z_iload_n hX dX0_rescue_23 24 rfl (i := 3) rfl 3 rfl ?_
      refine z_i2l hX dX0_rescue_24 25 rfl (w := (what).toInt64) (by first | rfl | decide) ?_
      refine z_lconst hX dX0_rescue_25 26 rfl (w := 0) rfl ?_
      refine z_ldc2 hX q899 dX0_rescue_26 29 rfl ?_
      refine z_eqL (L' := [(0, .ref x), (1, .int (nI house.toNatClampNeg)), (2, .int (nI coins.toNatClampNeg)), (3, .int what)]) (st' := [.long ((7 : Int32).toInt64), .long ((0 : Int32).toInt64), .long ((what).toInt64)]) rfl (by rfl) ?_
      refine z_callSp hX cwX0_45 (w := .int (if zin what 8 then 1 else 0 : Int32)) (met_X0_inz hG what 7 8 (by decide)) dX0_rescue_29 32 rfl rfl rfl (Nat.le_of_ble_eq_true rfl) (by decide) ⟨Nat.zero_le _, Nat.zero_le _⟩ ?_
      refine z_if_eqP hX (zin what 8) dX0_rescue_32 35 rfl (tgt := 56) (by decide) (fun c4 => ?_) (fun c4 => ?_)
      ·
        refine z_iconst hX dX0_rescue_56 57 rfl zki_m1 ?_
        refine z_sub [0] rfl ?_
        refine z_widen (u' := 5) (v' := 16) (by omega) (by omega) ?_
        exact z_eqL rfl (by first | (simp only [if_pos c1, if_pos c3, if_neg c4] <;> rfl; done) | grind) (J2 _ (by first | (simpa only [if_pos c1, if_pos c3, if_neg c4] using hM) | ((try simp only [if_pos c1]); (try simp only [if_pos c3]); (try simp only [if_neg c4]); exact hM)))
      ·
        have e_what := zin_eq c4
        have l_what := zin_lt c4
        refine z_eqL (L' := [(0, .ref x), (1, .int (nI house.toNatClampNeg)), (2, .int (nI coins.toNatClampNeg)), (3, .int (nI what.toNatClampNeg))]) (st' := []) (by rw [← e_what]) (by first | rfl | rw [← e_what]) ?_
        refine z_aload_n hX dX0_rescue_35 36 rfl (i := 0) rfl 0 rfl ?_
        refine z_getf hX fX0_10 hM.1.o dX0_rescue_36 39 rfl (x := .ref t) rfl ?_
        refine z_aload_n hX dX0_rescue_39 40 rfl (i := 0) rfl 0 rfl ?_
        refine z_aload_n hX dX0_rescue_40 41 rfl (i := 0) rfl 0 rfl ?_
        refine z_getf hX fX0_10 hM.1.o dX0_rescue_41 44 rfl (x := .ref t) rfl ?_
        refine z_iload_n hX dX0_rescue_44 45 rfl (i := 1) rfl 1 rfl ?_
        refine z_iload_n hX dX0_rescue_45 46 rfl (i := 2) rfl 2 rfl ?_
        refine z_callV hX cwX0_298 (met_X0_withCoins hG hM.1 hM.2.1 hN ne_x_t_00 ne_x_t_01 ne_x_t_02 house.toNatClampNeg (nI coins.toNatClampNeg) (by omega)) hM.1.o rfl rfl dX0_rescue_46 49 rfl rfl rfl (Nat.le_of_ble_eq_true rfl) (by decide) ⟨by omega, by omega⟩ (fun r G hP => ?_)
        obtain ⟨ns46, s46, bs46, hzs46, rfl, hP⟩ := hP
        have ne_x_s46 : (xq, 0) ≠ (ns46, 0) := hzs46.neT hM.1.o
        obtain ⟨fs9, ho9⟩ := hM.2.1.o
        have ne_t_s46_0 : (q, 0) ≠ (ns46, 0) := hzs46.neT ho9
        have ne_t_s46_1 : (q, 1) ≠ (ns46, 0) := hzs46.neT ho9
        have ne_t_s46_2 : (q, 2) ≠ (ns46, 0) := hzs46.neT ho9
        have nq_t_s46 : q ≠ ns46 := hzs46 _ _ _ ho9
        have fn_s46 : zFresh G0 ns46 := hzs46.of' hM.2.2 (zfm1 nq_t_s46 (zfm1 nq_t_s46 (zfm1 nq_t_s46 zfm0)))
        have hM : zFx G xq x t dq tp bg bl tpd ∧ zTw g G q t B N tk cp sh fc (x0_withCoins_gn N tk cp sh fc A H K house.toNatClampNeg (nI coins.toNatClampNeg)) ∧ zSt g G (ns46, 0) s46 bs46 (x0_withCoins_res_sold N tk cp sh fc A H K house.toNatClampNeg (nI coins.toNatClampNeg)) (x0_withCoins_res_fallen N tk cp sh fc A H K house.toNatClampNeg (nI coins.toNatClampNeg)) ∧ zFrK [(q, 0), (q, 1), (q, 2)] G0 G := ⟨hP.1, hP.2.1, hP.2.2.1, hM.2.2.stepL hP.2.2.2 (zml1 (Or.inl List.mem_cons_self) (zml1 (Or.inl (List.mem_cons_of_mem _ List.mem_cons_self)) (zml1 (Or.inl (List.mem_cons_of_mem _ (List.mem_cons_of_mem _ List.mem_cons_self))) zml0)))⟩
        show ZW g X 5 16 G 49 [(0, .ref x), (1, .int (nI house.toNatClampNeg)), (2, .int (nI coins.toNatClampNeg)), (3, .int (nI what.toNatClampNeg))] [.ref s46, .ref t]
        refine z_iload_n hX dX0_rescue_49 50 rfl (i := 3) rfl 3 rfl ?_
        obtain ⟨opr, os1, os2, of1, of2, ob1, ob2, hT9, h19, h29⟩ := id hM.2.1
        refine z_callVp hX cwX0_206 (w := .int (x1_tells N tk sh (x0_withCoins_res_sold N tk cp sh fc A H K house.toNatClampNeg (nI coins.toNatClampNeg)) (x0_withCoins_res_fallen N tk cp sh fc A H K house.toNatClampNeg (nI coins.toNatClampNeg)) A K (nI what.toNatClampNeg))) (met_X1_tells hG hT9 hM.2.2.1 hN (nI what.toNatClampNeg)) hT9.o rfl rfl dX0_rescue_50 53 rfl rfl rfl (Nat.le_of_ble_eq_true rfl) (by decide) ⟨by omega, by omega⟩ ?_
        refine z_goto hX dX0_rescue_53 (tgt := 57) (by decide) ?_
        have hM : zFx G xq x t dq tp bg bl tpd ∧ zTw g G q t B N tk cp sh fc (x0_withCoins_gn N tk cp sh fc A H K house.toNatClampNeg (nI coins.toNatClampNeg)) ∧ zFrK [(q, 0), (q, 1), (q, 2)] G0 G := ⟨hM.1, hM.2.1, hM.2.2.2⟩
        refine z_sub [0] rfl ?_
        exact z_eqL rfl (by first | (simp only [if_pos c1, if_pos c3, if_pos c4] <;> rfl; done) | grind) (J2 _ (by first | (simpa only [if_pos c1, if_pos c3, if_pos c4] using hM) | ((try simp only [if_pos c1]); (try simp only [if_pos c3]); (try simp only [if_pos c4]); exact hM)))
abbrev x0_isSafe (N : Nat → Int32) (tk : Nat → Int32) (cp : Nat → Int32) (sh : Nat → Int32) (fc : Int32) (A : Nat) (H : Nat) (K : Nat → Nat) (h : Nat) (c : Int32) : Prop := (x0_withCoins_res_fallen N tk cp sh fc A H K h c) = 0
noncomputable def x0_isSafe_gn (N : Nat → Int32) (tk : Nat → Int32) (cp : Nat → Int32) (sh : Nat → Int32) (fc : Int32) (A : Nat) (H : Nat) (K : Nat → Nat) (h : Nat) (c : Int32) : Int32 := x0_withCoins_gn N tk cp sh fc A H K h c
set_option maxHeartbeats 4000000 in
theorem met_X0_isSafe {g : Zg} (hG : zG g) {G0 : zHG} {xq x dq tp : Nat} {bg : Value} {bl tpd : Int32} {q t : Nat} {B : Nat → Nat → Nat} {N tk cp sh : Nat → Int32} {fc gn : Int32} (hx : zFx G0 xq x t dq tp bg bl tpd) (ht : zTw g G0 q t B N tk cp sh fc gn) {A H : Nat} {K : Nat → Nat} (hN : zWf N A H K) (ne_x_t_00 : (xq, 0) ≠ (q, 0)) (ne_x_t_01 : (xq, 0) ≠ (q, 1)) (ne_x_t_02 : (xq, 0) ≠ (q, 2)) (h : Nat) (c : Int32) (h_h : h < H)  : ZM g yX0_isSafe cX0_isSafe 3 (some FieldType.boolean) 10 5 16 [.ref x, .int (nI h), .int c] G0 (fun r G' => r = some (.int (if x0_isSafe N tk cp sh fc A H K h c then 1 else 0)) ∧ (zFx G' xq x t dq tp bg bl tpd ∧ zTw g G' q t B N tk cp sh fc (x0_isSafe_gn N tk cp sh fc A H K h c) ∧ zFrK [(q, 0), (q, 1), (q, 2)] G0 G')) := by
  unfold x0_isSafe_gn
  have hN2 := hN.2.1
  have hN4 := hN.2.2.2.1
  refine ZM_mk hG (by decide) (Nat.le_of_ble_eq_true rfl) ?_
  intro X hX hname hQ
  obtain ⟨G, hGe⟩ : ∃ z, z = G0 := ⟨_, rfl⟩
  have hM : zFx G xq x t dq tp bg bl tpd ∧ zTw g G q t B N tk cp sh fc gn ∧ zFrK [(q, 0), (q, 1), (q, 2)] G0 G := by rw [hGe]; exact ⟨hx, ht, zFrK.rf⟩
  show ZW g X 0 0 G0 0 [(0, .ref x), (1, .int (nI h)), (2, .int c)] []
  rw [← hGe]
  refine z_aload_n hX dX0_isSafe_0 1 rfl (i := 0) rfl 0 rfl ?_
  refine z_aload_n hX dX0_isSafe_1 2 rfl (i := 0) rfl 0 rfl ?_
  refine z_getf hX fX0_10 hM.1.o dX0_isSafe_2 5 rfl (x := .ref t) rfl ?_
  refine z_iload_n hX dX0_isSafe_5 6 rfl (i := 1) rfl 1 rfl ?_
  refine z_iload_n hX dX0_isSafe_6 7 rfl (i := 2) rfl 2 rfl ?_
  refine z_callV hX cwX0_298 (met_X0_withCoins hG hM.1 hM.2.1 hN ne_x_t_00 ne_x_t_01 ne_x_t_02 h c (by omega)) hM.1.o rfl rfl dX0_isSafe_7 10 rfl rfl rfl (Nat.le_of_ble_eq_true rfl) (by decide) ⟨by omega, by omega⟩ (fun r G hP => ?_)
  obtain ⟨ns7, s7, bs7, hzs7, rfl, hP⟩ := hP
  have ne_x_s7 : (xq, 0) ≠ (ns7, 0) := hzs7.neT hM.1.o
  obtain ⟨fs9, ho9⟩ := hM.2.1.o
  have ne_t_s7_0 : (q, 0) ≠ (ns7, 0) := hzs7.neT ho9
  have ne_t_s7_1 : (q, 1) ≠ (ns7, 0) := hzs7.neT ho9
  have ne_t_s7_2 : (q, 2) ≠ (ns7, 0) := hzs7.neT ho9
  have nq_t_s7 : q ≠ ns7 := hzs7 _ _ _ ho9
  have fn_s7 : zFresh G0 ns7 := hzs7.of' hM.2.2 (zfm1 nq_t_s7 (zfm1 nq_t_s7 (zfm1 nq_t_s7 zfm0)))
  have hM : zFx G xq x t dq tp bg bl tpd ∧ zTw g G q t B N tk cp sh fc (x0_withCoins_gn N tk cp sh fc A H K h c) ∧ zSt g G (ns7, 0) s7 bs7 (x0_withCoins_res_sold N tk cp sh fc A H K h c) (x0_withCoins_res_fallen N tk cp sh fc A H K h c) ∧ zFrK [(q, 0), (q, 1), (q, 2)] G0 G := ⟨hP.1, hP.2.1, hP.2.2.1, hM.2.2.stepL hP.2.2.2 (zml1 (Or.inl List.mem_cons_self) (zml1 (Or.inl (List.mem_cons_of_mem _ List.mem_cons_self)) (zml1 (Or.inl (List.mem_cons_of_mem _ (List.mem_cons_of_mem _ List.mem_cons_self))) zml0)))⟩
  show ZW g X 5 16 G 10 [(0, .ref x), (1, .int (nI h)), (2, .int c)] [.ref s7]
  refine z_getfN hX fX0_145 hM.2.2.1.o dX0_isSafe_10 13 rfl (x := .int (x0_withCoins_res_fallen N tk cp sh fc A H K h c)) rfl ?_
  have J2 : ZW g X 5 16 G 21 [(0, .ref x), (1, .int (nI h)), (2, .int c)] [.int (if (x0_withCoins_res_fallen N tk cp sh fc A H K h c) = 0 then 1 else 0 : Int32)] := by
    have hM : zFx G xq x t dq tp bg bl tpd ∧ zTw g G q t B N tk cp sh fc (x0_withCoins_gn N tk cp sh fc A H K h c) ∧ zFrK [(q, 0), (q, 1), (q, 2)] G0 G := ⟨hM.1, hM.2.1, hM.2.2.2⟩
    exact z_zret hX hQ (by omega) (by omega) rfl (z_nb _) dX0_isSafe_21 ⟨rfl, hM⟩
  refine z_if_ne hX dX0_isSafe_13 16 rfl (tgt := 20) (by decide) (fun c1 => ?_) (fun c1 => ?_)
  ·
    refine z_iconst hX dX0_isSafe_20 21 rfl zki_0 ?_
    exact z_eqL rfl (by first | (simp only [if_neg c1] <;> rfl; done) | grind) J2
  ·
    refine z_iconst hX dX0_isSafe_16 17 rfl zki_1 ?_
    refine z_goto hX dX0_isSafe_17 (tgt := 21) (by decide) ?_
    exact z_eqL rfl (by first | (simp only [if_pos c1] <;> rfl; done) | grind) J2
noncomputable def x0_bestHouse_l9 (N : Nat → Int32) (tk : Nat → Int32) (cp : Nat → Int32) (sh : Nat → Int32) (fc : Int32) (A : Nat) (H : Nat) (K : Nat → Nat) (c : Int32) (ini : Int32 × Int32 × Int32) (k : Nat) : Int32 × Int32 × Int32 := zfold k (fun j1 cj1 => ((if cj1.1 = (-2) then nI j1 else (if (x1_lost N tk sh (x0_withCoins_res_sold N tk cp sh fc A H K j1 c) A K) < cj1.2.1 then nI j1 else cj1.1 : Int32) : Int32), (if cj1.1 = (-2) then x1_lost N tk sh (x0_withCoins_res_sold N tk cp sh fc A H K j1 c) A K else (if (x1_lost N tk sh (x0_withCoins_res_sold N tk cp sh fc A H K j1 c) A K) < cj1.2.1 then x1_lost N tk sh (x0_withCoins_res_sold N tk cp sh fc A H K j1 c) A K else cj1.2.1 : Int32) : Int32), x0_withCoins_gn N tk cp sh fc A H K j1 c)) ini
theorem x0_bestHouse_l9_0 (N : Nat → Int32) (tk : Nat → Int32) (cp : Nat → Int32) (sh : Nat → Int32) (fc : Int32) (A : Nat) (H : Nat) (K : Nat → Nat) (c : Int32) (ini : Int32 × Int32 × Int32) : x0_bestHouse_l9 N tk cp sh fc A H K c ini 0 = ini := (zfold_0 _ _).trans (Eq.refl _)
noncomputable def x0_bestHouse (N : Nat → Int32) (tk : Nat → Int32) (cp : Nat → Int32) (sh : Nat → Int32) (fc : Int32) (gn : Int32) (A : Nat) (H : Nat) (K : Nat → Nat) (c : Int32) : Int32 := (x0_bestHouse_l9 N tk cp sh fc A H K c ((-2), 0, gn) H).1
noncomputable def x0_bestHouse_gn (N : Nat → Int32) (tk : Nat → Int32) (cp : Nat → Int32) (sh : Nat → Int32) (fc : Int32) (gn : Int32) (A : Nat) (H : Nat) (K : Nat → Nat) (c : Int32) : Int32 := (x0_bestHouse_l9 N tk cp sh fc A H K c ((-2), 0, gn) H).2.2
set_option maxHeartbeats 4000000 in
theorem met_X0_bestHouse {g : Zg} (hG : zG g) {G0 : zHG} {xq x nw dq tp : Nat} {bg : Value} {bl tpd : Int32} {q t : Nat} {B : Nat → Nat → Nat} {N tk cp sh : Nat → Int32} {fc gn : Int32} (hx : zFx G0 xq x nw dq tp bg bl tpd) (ht : zTw g G0 q t B N tk cp sh fc gn) {A H : Nat} {K : Nat → Nat} (hN : zWf N A H K) (ne_x_t_00 : (xq, 0) ≠ (q, 0)) (ne_x_t_01 : (xq, 0) ≠ (q, 1)) (ne_x_t_02 : (xq, 0) ≠ (q, 2)) (c : Int32)  : ZM g yX0_bestHouse cX0_bestHouse 7 (some FieldType.int) 10 30 96 [.ref x, .ref t, .int c] G0 (fun r G' => r = some (.int (x0_bestHouse N tk cp sh fc gn A H K c)) ∧ (zFx G' xq x nw dq tp bg bl tpd ∧ zTw g G' q t B N tk cp sh fc (x0_bestHouse_gn N tk cp sh fc gn A H K c) ∧ zFrK [(q, 0), (q, 1), (q, 2)] G0 G')) := by
  unfold x0_bestHouse x0_bestHouse_gn
  have hN2 := hN.2.1
  have hN4 := hN.2.2.2.1
  refine ZM_mk hG (by decide) (Nat.le_of_ble_eq_true rfl) ?_
  intro X hX hname hQ
  obtain ⟨G, hGe⟩ : ∃ z, z = G0 := ⟨_, rfl⟩
  have hM : zFx G xq x nw dq tp bg bl tpd ∧ zTw g G q t B N tk cp sh fc gn ∧ zFrK [(q, 0), (q, 1), (q, 2)] G0 G := by rw [hGe]; exact ⟨hx, ht, zFrK.rf⟩
  show ZW g X 0 0 G0 0 [(0, .ref x), (1, .ref t), (2, .int c)] []
  rw [← hGe]
  refine z_bipush hX dX0_bestHouse_0 2 rfl zkb_m2 ?_
  refine z_istore_n hX dX0_bestHouse_2 3 rfl (i := 3) rfl (Nat.le_of_ble_eq_true rfl) rfl (L' := [(0, .ref x), (1, .ref t), (2, .int c), (3, .int (-2))]) rfl ?_
  refine z_iconst hX dX0_bestHouse_3 4 rfl zki_0 ?_
  refine z_istore hX dX0_bestHouse_4 6 rfl (Nat.le_of_ble_eq_true rfl) rfl (L' := [(0, .ref x), (1, .ref t), (2, .int c), (3, .int (-2)), (4, .int 0)]) rfl ?_
  refine z_iconst hX dX0_bestHouse_6 7 rfl zki_0 ?_
  refine z_istore hX dX0_bestHouse_7 9 rfl (Nat.le_of_ble_eq_true rfl) rfl (L' := [(0, .ref x), (1, .ref t), (2, .int c), (3, .int (-2)), (4, .int 0), (5, .int 0)]) rfl ?_
  have E2 : ∀ G : zHG, zFx G xq x nw dq tp bg bl tpd ∧ zTw g G q t B N tk cp sh fc ((x0_bestHouse_l9 N tk cp sh fc A H K c ((-2), 0, gn) H).2.2) ∧ zFrK [(q, 0), (q, 1), (q, 2)] G0 G → ZW g X (5 * H) (16 * H) G 61 [(0, .ref x), (1, .ref t), (2, .int c), (3, .int ((x0_bestHouse_l9 N tk cp sh fc A H K c ((-2), 0, gn) H).1)), (4, .int ((x0_bestHouse_l9 N tk cp sh fc A H K c ((-2), 0, gn) H).2.1)), (5, .int (nI H))] [] := by
    intro G hM
    refine z_iload_n hX dX0_bestHouse_61 62 rfl (i := 3) rfl 3 rfl ?_
    exact z_iret hX hQ (by omega) (by omega) rfl dX0_bestHouse_62 ⟨rfl, hM⟩
  have Lp3 : ∀ k j1 : Nat, j1 + k = H → ∀ G : zHG, zFx G xq x nw dq tp bg bl tpd ∧ zTw g G q t B N tk cp sh fc ((x0_bestHouse_l9 N tk cp sh fc A H K c ((-2), 0, gn) j1).2.2) ∧ zFrK [(q, 0), (q, 1), (q, 2)] G0 G → ZW g X (5 * j1) (16 * j1) G 9 [(0, .ref x), (1, .ref t), (2, .int c), (3, .int ((x0_bestHouse_l9 N tk cp sh fc A H K c ((-2), 0, gn) j1).1)), (4, .int ((x0_bestHouse_l9 N tk cp sh fc A H K c ((-2), 0, gn) j1).2.1)), (5, .int (nI j1))] [] := by
    intro k
    induction k with
    | zero =>
      intro j1 hj1 G hM
      rw [show j1 = H from by omega] at hM ⊢
      refine z_iload hX dX0_bestHouse_9 11 rfl 5 rfl ?_
      refine z_aload_n hX dX0_bestHouse_11 12 rfl (i := 1) rfl 1 rfl ?_
      obtain ⟨opr, os1, os2, of1, of2, ob1, ob2, hT9, h19, h29⟩ := id hM.2.1
      refine z_getfN hX fX0_64 hT9.o dX0_bestHouse_12 15 rfl (x := .int (nI H)) (congrArg (fun z => some (Value.int z)) hN.2.2.1) ?_
      refine z_icmp_geN hX H H (by omega) (by omega) dX0_bestHouse_15 18 rfl (tgt := 61) (by decide) (fun c4 => ?_) (fun c4 => ?_)
      · exact E2 _ hM
      · exact absurd c4 (by omega)
    | succ k ih =>
      intro j1 hj1 G hM
      refine z_iload hX dX0_bestHouse_9 11 rfl 5 rfl ?_
      refine z_aload_n hX dX0_bestHouse_11 12 rfl (i := 1) rfl 1 rfl ?_
      obtain ⟨opr, os1, os2, of1, of2, ob1, ob2, hT9, h19, h29⟩ := id hM.2.1
      refine z_getfN hX fX0_64 hT9.o dX0_bestHouse_12 15 rfl (x := .int (nI H)) (congrArg (fun z => some (Value.int z)) hN.2.2.1) ?_
      refine z_icmp_geN hX j1 H (by omega) (by omega) dX0_bestHouse_15 18 rfl (tgt := 61) (by decide) (fun c5 => ?_) (fun c5 => ?_)
      · exact absurd c5 (by omega)
      ·
        refine z_aload_n hX dX0_bestHouse_18 19 rfl (i := 1) rfl 1 rfl ?_
        refine z_aload_n hX dX0_bestHouse_19 20 rfl (i := 0) rfl 0 rfl ?_
        refine z_aload_n hX dX0_bestHouse_20 21 rfl (i := 1) rfl 1 rfl ?_
        refine z_iload hX dX0_bestHouse_21 23 rfl 5 rfl ?_
        refine z_iload_n hX dX0_bestHouse_23 24 rfl (i := 2) rfl 2 rfl ?_
        refine z_callV hX cwX0_298 (met_X0_withCoins hG hM.1 hM.2.1 hN ne_x_t_00 ne_x_t_01 ne_x_t_02 j1 c (by omega)) hM.1.o rfl rfl dX0_bestHouse_24 27 rfl rfl rfl (Nat.le_of_ble_eq_true rfl) (by decide) ⟨by omega, by omega⟩ (fun r G hP => ?_)
        obtain ⟨ns24, s24, bs24, hzs24, rfl, hP⟩ := hP
        have ne_x_s24 : (xq, 0) ≠ (ns24, 0) := hzs24.neT hM.1.o
        obtain ⟨fs9, ho9⟩ := hM.2.1.o
        have ne_t_s24_0 : (q, 0) ≠ (ns24, 0) := hzs24.neT ho9
        have ne_t_s24_1 : (q, 1) ≠ (ns24, 0) := hzs24.neT ho9
        have ne_t_s24_2 : (q, 2) ≠ (ns24, 0) := hzs24.neT ho9
        have nq_t_s24 : q ≠ ns24 := hzs24 _ _ _ ho9
        have fn_s24 : zFresh G0 ns24 := hzs24.of' hM.2.2 (zfm1 nq_t_s24 (zfm1 nq_t_s24 (zfm1 nq_t_s24 zfm0)))
        have hM : zFx G xq x nw dq tp bg bl tpd ∧ zTw g G q t B N tk cp sh fc (x0_withCoins_gn N tk cp sh fc A H K j1 c) ∧ zSt g G (ns24, 0) s24 bs24 (x0_withCoins_res_sold N tk cp sh fc A H K j1 c) (x0_withCoins_res_fallen N tk cp sh fc A H K j1 c) ∧ zFrK [(q, 0), (q, 1), (q, 2)] G0 G := ⟨hP.1, hP.2.1, hP.2.2.1, hM.2.2.stepL hP.2.2.2 (zml1 (Or.inl List.mem_cons_self) (zml1 (Or.inl (List.mem_cons_of_mem _ List.mem_cons_self)) (zml1 (Or.inl (List.mem_cons_of_mem _ (List.mem_cons_of_mem _ List.mem_cons_self))) zml0)))⟩
        show ZW g X (5 * j1 + 5) (16 * j1 + 16) G 27 [(0, .ref x), (1, .ref t), (2, .int c), (3, .int ((x0_bestHouse_l9 N tk cp sh fc A H K c ((-2), 0, gn) j1).1)), (4, .int ((x0_bestHouse_l9 N tk cp sh fc A H K c ((-2), 0, gn) j1).2.1)), (5, .int (nI j1))] [.ref s24, .ref t]
        obtain ⟨opr, os1, os2, of1, of2, ob1, ob2, hT9, h19, h29⟩ := id hM.2.1
        refine z_callVp hX cwX0_246 (w := .int (x1_lost N tk sh (x0_withCoins_res_sold N tk cp sh fc A H K j1 c) A K)) (met_X1_lost hG hT9 hM.2.2.1 hN) hT9.o rfl rfl dX0_bestHouse_27 30 rfl rfl rfl (Nat.le_of_ble_eq_true rfl) (by decide) ⟨by omega, by omega⟩ ?_
        refine z_istore hX dX0_bestHouse_30 32 rfl (Nat.le_of_ble_eq_true rfl) rfl (L' := [(0, .ref x), (1, .ref t), (2, .int c), (3, .int ((x0_bestHouse_l9 N tk cp sh fc A H K c ((-2), 0, gn) j1).1)), (4, .int ((x0_bestHouse_l9 N tk cp sh fc A H K c ((-2), 0, gn) j1).2.1)), (5, .int (nI j1)), (6, .int (x1_lost N tk sh (x0_withCoins_res_sold N tk cp sh fc A H K j1 c) A K))]) rfl ?_
        refine z_iload_n hX dX0_bestHouse_32 33 rfl (i := 3) rfl 3 rfl ?_
        refine z_bipush hX dX0_bestHouse_33 35 rfl zkb_m2 ?_
        have J7 : ZW g X (5 * j1 + 5) (16 * j1 + 16) G 55 [(0, .ref x), (1, .ref t), (2, .int c), (3, .int (if ((x0_bestHouse_l9 N tk cp sh fc A H K c ((-2), 0, gn) j1).1) = (-2) then nI j1 else (if (x1_lost N tk sh (x0_withCoins_res_sold N tk cp sh fc A H K j1 c) A K) < ((x0_bestHouse_l9 N tk cp sh fc A H K c ((-2), 0, gn) j1).2.1) then nI j1 else (x0_bestHouse_l9 N tk cp sh fc A H K c ((-2), 0, gn) j1).1 : Int32) : Int32)), (4, .int (if ((x0_bestHouse_l9 N tk cp sh fc A H K c ((-2), 0, gn) j1).1) = (-2) then x1_lost N tk sh (x0_withCoins_res_sold N tk cp sh fc A H K j1 c) A K else (if (x1_lost N tk sh (x0_withCoins_res_sold N tk cp sh fc A H K j1 c) A K) < ((x0_bestHouse_l9 N tk cp sh fc A H K c ((-2), 0, gn) j1).2.1) then x1_lost N tk sh (x0_withCoins_res_sold N tk cp sh fc A H K j1 c) A K else (x0_bestHouse_l9 N tk cp sh fc A H K c ((-2), 0, gn) j1).2.1 : Int32) : Int32)), (5, .int (nI j1)), (6, .int (x1_lost N tk sh (x0_withCoins_res_sold N tk cp sh fc A H K j1 c) A K))] [] := by
          refine z_iinc hX dX0_bestHouse_55 58 rfl 5 rfl (w := nI (j1 + 1)) (nI_1 j1) (Nat.le_of_ble_eq_true rfl) rfl (L' := [(0, .ref x), (1, .ref t), (2, .int c), (3, .int (if ((x0_bestHouse_l9 N tk cp sh fc A H K c ((-2), 0, gn) j1).1) = (-2) then nI j1 else (if (x1_lost N tk sh (x0_withCoins_res_sold N tk cp sh fc A H K j1 c) A K) < ((x0_bestHouse_l9 N tk cp sh fc A H K c ((-2), 0, gn) j1).2.1) then nI j1 else (x0_bestHouse_l9 N tk cp sh fc A H K c ((-2), 0, gn) j1).1 : Int32) : Int32)), (4, .int (if ((x0_bestHouse_l9 N tk cp sh fc A H K c ((-2), 0, gn) j1).1) = (-2) then x1_lost N tk sh (x0_withCoins_res_sold N tk cp sh fc A H K j1 c) A K else (if (x1_lost N tk sh (x0_withCoins_res_sold N tk cp sh fc A H K j1 c) A K) < ((x0_bestHouse_l9 N tk cp sh fc A H K c ((-2), 0, gn) j1).2.1) then x1_lost N tk sh (x0_withCoins_res_sold N tk cp sh fc A H K j1 c) A K else (x0_bestHouse_l9 N tk cp sh fc A H K c ((-2), 0, gn) j1).2.1 : Int32) : Int32)), (5, .int (nI (j1 + 1))), (6, .int (x1_lost N tk sh (x0_withCoins_res_sold N tk cp sh fc A H K j1 c) A K))]) rfl ?_
          refine z_goto hX dX0_bestHouse_58 (tgt := 9) (by decide) ?_
          have hM : zFx G xq x nw dq tp bg bl tpd ∧ zTw g G q t B N tk cp sh fc (x0_withCoins_gn N tk cp sh fc A H K j1 c) ∧ zFrK [(q, 0), (q, 1), (q, 2)] G0 G := ⟨hM.1, hM.2.1, hM.2.2.2⟩
          refine z_sub [0, 1, 2, 3, 4, 5] rfl ?_
          refine z_widen (u' := 5 * (j1 + 1)) (v' := 16 * (j1 + 1)) (by omega) (by omega) ?_
          exact ih (j1 + 1) (by omega) _ hM
        refine z_icmp_eq hX dX0_bestHouse_35 38 rfl (tgt := 48) (by decide) (fun c6 => ?_) (fun c6 => ?_)
        ·
          refine z_iload hX dX0_bestHouse_48 50 rfl 5 rfl ?_
          refine z_istore_n hX dX0_bestHouse_50 51 rfl (i := 3) rfl (Nat.le_of_ble_eq_true rfl) rfl (L' := [(0, .ref x), (1, .ref t), (2, .int c), (3, .int (nI j1)), (4, .int ((x0_bestHouse_l9 N tk cp sh fc A H K c ((-2), 0, gn) j1).2.1)), (5, .int (nI j1)), (6, .int (x1_lost N tk sh (x0_withCoins_res_sold N tk cp sh fc A H K j1 c) A K))]) rfl ?_
          refine z_iload hX dX0_bestHouse_51 53 rfl 6 rfl ?_
          refine z_istore hX dX0_bestHouse_53 55 rfl (Nat.le_of_ble_eq_true rfl) rfl (L' := [(0, .ref x), (1, .ref t), (2, .int c), (3, .int (nI j1)), (4, .int (x1_lost N tk sh (x0_withCoins_res_sold N tk cp sh fc A H K j1 c) A K)), (5, .int (nI j1)), (6, .int (x1_lost N tk sh (x0_withCoins_res_sold N tk cp sh fc A H K j1 c) A K))]) rfl ?_
          exact z_eqL (by first | (simp only [if_pos c6] <;> rfl; done) | grind) rfl J7
        ·
          refine z_iload hX dX0_bestHouse_38 40 rfl 6 rfl ?_
          refine z_iload hX dX0_bestHouse_40 42 rfl 4 rfl ?_
          refine z_icmp_lt hX dX0_bestHouse_42 45 rfl (tgt := 48) (by decide) (fun c8 => ?_) (fun c8 => ?_)
          ·
            refine z_iload hX dX0_bestHouse_48 50 rfl 5 rfl ?_
            refine z_istore_n hX dX0_bestHouse_50 51 rfl (i := 3) rfl (Nat.le_of_ble_eq_true rfl) rfl (L' := [(0, .ref x), (1, .ref t), (2, .int c), (3, .int (nI j1)), (4, .int ((x0_bestHouse_l9 N tk cp sh fc A H K c ((-2), 0, gn) j1).2.1)), (5, .int (nI j1)), (6, .int (x1_lost N tk sh (x0_withCoins_res_sold N tk cp sh fc A H K j1 c) A K))]) rfl ?_
            refine z_iload hX dX0_bestHouse_51 53 rfl 6 rfl ?_
            refine z_istore hX dX0_bestHouse_53 55 rfl (Nat.le_of_ble_eq_true rfl) rfl (L' := [(0, .ref x), (1, .ref t), (2, .int c), (3, .int (nI j1)), (4, .int (x1_lost N tk sh (x0_withCoins_res_sold N tk cp sh fc A H K j1 c) A K)), (5, .int (nI j1)), (6, .int (x1_lost N tk sh (x0_withCoins_res_sold N tk cp sh fc A H K j1 c) A K))]) rfl ?_
            exact z_eqL (by first | (simp only [if_neg c6, if_pos c8] <;> rfl; done) | grind) rfl J7
          ·
            refine z_goto hX dX0_bestHouse_45 (tgt := 55) (by decide) ?_
            exact z_eqL (by first | (simp only [if_neg c6, if_neg c8] <;> rfl; done) | grind) rfl J7
  have hM : zFx G xq x nw dq tp bg bl tpd ∧ zTw g G q t B N tk cp sh fc ((x0_bestHouse_l9 N tk cp sh fc A H K c ((-2), 0, gn) 0).2.2) ∧ zFrK [(q, 0), (q, 1), (q, 2)] G0 G := by simpa only [x0_bestHouse_l9_0] using hM
  exact Lp3 H 0 (by omega) _ hM
