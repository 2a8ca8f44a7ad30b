set_option maxRecDepth 100000
theorem z_astoreN {g : Zg} {X : Zx} {own : String} {cc : ByteArray} {nL : Nat} {ret : Option FieldType} {d mc ms : Nat} {u v pc : Nat} {G : zHG} {L : List (Nat × Value)} {st : List Value} (hX : zOk g X own cc nL ret d mc ms) {i : Nat} {L' : List (Nat × Value)} (hdg : decode cc pc = .ok (.astore i, 2)) (p : Nat) (hp : pc + 2 = p) (hn : i < nL) (hf : zfr L i = true) (hl : zst L i .null = L') (kk : ZW g X u v G p L' st) : ZW g X u v G pc L (.null :: st) := by
  subst hp
  exact fun H locs ls cs ss hR hS hu hv hL => lv_astoreN (lv := L) hX.exec hX.code hdg hL (by rw [hX.maxL]; exact hn) rfl (fun ls' h' => kk H locs ls' cs ss hR hS hu hv (by rw [← hl]; exact zst_has hf h'))
abbrev x0_told_is (N : Nat → Int32) (A : Nat) (H : Nat) (sold : Int32) (more : Int32) (down : Int32) : Prop := if sold < 0 then False else if more < 0 then False else if 0 ≤ down ∧ down ≤ (((1 : Int32) <<< ((nI H) &&& 31)) - 1) then if (sold / 1000) ≤ (if zin 0 A then x1_held N 0 else 0 : Int32) then if (sold - sold / 1000 * 1000) ≤ (if zin 1 A then x1_held N 1 else 0 : Int32) then if (more / 1000) ≤ (if zin 2 A then x1_held N 2 else 0 : Int32) then if (more - more / 1000 * 1000) ≤ (if zin 3 A then x1_held N 3 else 0 : Int32) then True else False else False else False else False else False
def x0_told_res_sold (N : Nat → Int32) (A : Nat) (H : Nat) (sold : Int32) (more : Int32) (down : Int32) : Nat → Int32 := if sold < 0 then (fun _ => 0) else if more < 0 then (fun _ => 0) else if 0 ≤ down ∧ down ≤ (((1 : Int32) <<< ((nI H) &&& 31)) - 1) then if (sold / 1000) ≤ (if zin 0 A then x1_held N 0 else 0 : Int32) then if (sold - sold / 1000 * 1000) ≤ (if zin 1 A then x1_held N 1 else 0 : Int32) then if (more / 1000) ≤ (if zin 2 A then x1_held N 2 else 0 : Int32) then if (more - more / 1000 * 1000) ≤ (if zin 3 A then x1_held N 3 else 0 : Int32) then upd (upd (upd (upd (fun _ => 0) 0 (sold / 1000)) 1 (sold - sold / 1000 * 1000)) 2 (more / 1000)) 3 (more - more / 1000 * 1000) else (fun _ => 0) else (fun _ => 0) else (fun _ => 0) else (fun _ => 0) else (fun _ => 0)
def x0_told_res_fallen (N : Nat → Int32) (A : Nat) (H : Nat) (sold : Int32) (more : Int32) (down : Int32) : Int32 := if sold < 0 then 0 else if more < 0 then 0 else if 0 ≤ down ∧ down ≤ (((1 : Int32) <<< ((nI H) &&& 31)) - 1) then if (sold / 1000) ≤ (if zin 0 A then x1_held N 0 else 0 : Int32) then if (sold - sold / 1000 * 1000) ≤ (if zin 1 A then x1_held N 1 else 0 : Int32) then if (more / 1000) ≤ (if zin 2 A then x1_held N 2 else 0 : Int32) then if (more - more / 1000 * 1000) ≤ (if zin 3 A then x1_held N 3 else 0 : Int32) then down else 0 else 0 else 0 else 0 else 0
set_option maxHeartbeats 4000000 in
theorem met_X0_told {g : Zg} (hG : zG g) {G0 : zHG} {xq x dq tp : Nat} {bg : Value} {bl tpd : Int32} {q t : Nat} {B : Nat → Nat → Nat} {N tk cp sh : Nat → Int32} {fc gn : Int32} (hx : zFx G0 xq x t dq tp bg bl tpd) (ht : zTw g G0 q t B N tk cp sh fc gn) {A H : Nat} {K : Nat → Nat} (hN : zWf N A H K) (sold : Int32) (more : Int32) (down : Int32)  : ZM g yX0_told cX0_told 7 (some (FieldType.object "FireSale$State")) 3 2 6 [.ref x, .int sold, .int more, .int down] G0 (fun r G' => ∃ nR sR bR : Nat, zFresh G0 nR ∧ r = some (if x0_told_is N A H sold more down then .ref sR else .null) ∧ (zFx G' xq x t dq tp bg bl tpd ∧ zTw g G' q t B N tk cp sh fc gn ∧ (x0_told_is N A H sold more down → zSt g G' (nR, 0) sR bR (x0_told_res_sold N A H sold more down) (x0_told_res_fallen N A H sold more down)) ∧ zFrK [] G0 G')) := by
  unfold x0_told_res_sold x0_told_res_fallen
  have hN2 := hN.2.1
  have hN4 := hN.2.2.2.1
  refine ZM_mk hG (by decide) (Nat.le_of_ble_eq_true rfl) ?_
  intro X hX hname hQ
  obtain ⟨G, hGe⟩ : ∃ z, z = G0 := ⟨_, rfl⟩
  have hM : zFx G xq x t dq tp bg bl tpd ∧ zTw g G q t B N tk cp sh fc gn ∧ zFrK [] G0 G := by rw [hGe]; exact ⟨hx, ht, zFrK.rf⟩
  show ZW g X 0 0 G0 0 [(0, .ref x), (1, .int sold), (2, .int more), (3, .int down)] []
  rw [← hGe]
  refine z_iload_n hX dX0_told_0 1 rfl (i := 1) rfl 1 rfl ?_
  refine z_if_lt hX dX0_told_1 4 rfl (tgt := 29) (by decide) (fun c1 => ?_) (fun c1 => ?_)
  ·
    refine z_null hX dX0_told_29 30 rfl ?_
    have hC : ¬ (x0_told_is N A H sold more down) := (by simp only [if_pos c1]; first | done | exact fun h => h | simp)
    refine z_fresh (fun nZ hzZ => ?_)
    exact z_aretN hX hQ (by omega) (by omega) rfl (Or.inl ⟨_, rfl⟩) dX0_told_30 ⟨nZ, 0, 0, hzZ.of' hM.2.2 zfm0, by rw [if_neg hC], hM.1, hM.2.1, fun h => absurd h hC, hM.2.2⟩
  ·
    refine z_iload_n hX dX0_told_4 5 rfl (i := 2) rfl 2 rfl ?_
    refine z_if_lt hX dX0_told_5 8 rfl (tgt := 29) (by decide) (fun c2 => ?_) (fun c2 => ?_)
    ·
      refine z_null hX dX0_told_29 30 rfl ?_
      have hC : ¬ (x0_told_is N A H sold more down) := (by simp only [if_neg c1, if_pos c2]; first | done | exact fun h => h | simp)
      refine z_fresh (fun nZ hzZ => ?_)
      exact z_aretN hX hQ (by omega) (by omega) rfl (Or.inl ⟨_, rfl⟩) dX0_told_30 ⟨nZ, 0, 0, hzZ.of' hM.2.2 zfm0, by rw [if_neg hC], hM.1, hM.2.1, fun h => absurd h hC, hM.2.2⟩
    ·
      refine z_iload_n hX dX0_told_8 9 rfl (i := 3) rfl 3 rfl ?_
      refine z_i2l hX dX0_told_9 10 rfl (w := (down).toInt64) (by first | rfl | decide) ?_
      refine z_lconst hX dX0_told_10 11 rfl (w := 0) rfl ?_
      refine z_iconst hX dX0_told_11 12 rfl zki_1 ?_
      refine z_aload_n hX dX0_told_12 13 rfl (i := 0) rfl 0 rfl ?_
      refine z_getf hX fX0_10 hM.1.o dX0_told_13 16 rfl (x := .ref t) rfl ?_
      obtain ⟨opr, os1, os2, of1, of2, ob1, ob2, hT9, h19, h29⟩ := id hM.2.1
      refine z_getfN hX fX0_64 hT9.o dX0_told_16 19 rfl (x := .int (nI H)) (congrArg (fun z => some (Value.int z)) hN.2.2.1) ?_
      refine z_ishl hX dX0_told_19 20 rfl (w := (1 : Int32) <<< ((nI H) &&& 31)) rfl ?_
      refine z_iconst hX dX0_told_20 21 rfl zki_1 ?_
      refine z_isub hX dX0_told_21 22 rfl (w := ((1 : Int32) <<< ((nI H) &&& 31)) - 1) rfl ?_
      refine z_i2l hX dX0_told_22 23 rfl (w := (((1 : Int32) <<< ((nI H) &&& 31)) - 1).toInt64) (by first | rfl | decide) ?_
      refine z_eqL (L' := [(0, .ref x), (1, .int sold), (2, .int more), (3, .int down)]) (st' := [.long ((((1 : Int32) <<< ((nI H) &&& 31)) - 1).toInt64), .long ((0 : Int32).toInt64), .long ((down).toInt64)]) rfl (by rfl) ?_
      refine z_callSp hX cwX0_45 (w := .int (if 0 ≤ down ∧ down ≤ (((1 : Int32) <<< ((nI H) &&& 31)) - 1) then 1 else 0 : Int32)) (met_X0_inI hG down 0 (((1 : Int32) <<< ((nI H) &&& 31)) - 1)) dX0_told_23 26 rfl rfl rfl (Nat.le_of_ble_eq_true rfl) (by decide) ⟨Nat.zero_le _, Nat.zero_le _⟩ ?_
      refine z_if_neP hX (0 ≤ down ∧ down ≤ (((1 : Int32) <<< ((nI H) &&& 31)) - 1)) dX0_told_26 29 rfl (tgt := 31) (by decide) (fun c3 => ?_) (fun c3 => ?_)
      ·
        refine z_fresh (fun ns31 hzs31 => ?_)
        have ne_x_s31 : (xq, 0) ≠ (ns31, 0) := hzs31.neT hM.1.o
        obtain ⟨fs9, ho9⟩ := hM.2.1.o
        have ne_t_s31_0 : (q, 0) ≠ (ns31, 0) := hzs31.neT ho9
        have ne_t_s31_1 : (q, 1) ≠ (ns31, 0) := hzs31.neT ho9
        have ne_t_s31_2 : (q, 2) ≠ (ns31, 0) := hzs31.neT ho9
        have nq_t_s31 : q ≠ ns31 := hzs31 _ _ _ ho9
        have fn_s31 : zFresh G0 ns31 := hzs31.of' hM.2.2 zfm0
        refine z_new hX (fun _ => (ns31, 0)) nwX0_146 dX0_told_31 34 rfl (by omega) (by omega) (fun s31 has31 _ => ?_)
        have hf : zFrK [] _ (zup G s31 ((ns31, 0), zO 3 [.null, .int 0])) := zup_new has31
        have hw := zup_self G s31 ((ns31, 0), zO 3 [.null, .int 0])
        generalize zup G s31 ((ns31, 0), zO 3 [.null, .int 0]) = G at hf hw ⊢
        have hM : zFx G xq x t dq tp bg bl tpd ∧ zTw g G q t B N tk cp sh fc gn ∧ G s31 = some ((((ns31, 0) : Nat × Nat).1, 512 * ((ns31, 0) : Nat × Nat).2 + 0), zO 3 [.null, .int 0]) ∧ zFrK [] G0 G := ⟨hM.1.kp (hf.kp zni0), hM.2.1.kp (hf.kp zni0) (hf.kp zni0) (hf.kp zni0), hw, hM.2.2.stepL hf zml0⟩
        refine z_dup hX dX0_told_34 35 rfl rfl ?_
        refine z_callIN hX cwX0_253 (met_X3_init hG (κ := (ns31, 0)) hM.2.2.1 (show ¬ 0 = 9 from by decide)) dX0_told_35 38 rfl rfl rfl (Nat.le_of_ble_eq_true rfl) (by decide) ⟨by omega, by omega⟩ (fun r G hP => ?_)
        obtain ⟨rfl, bs31, hw, hf⟩ := hP
        have hM : zFx G xq x t dq tp bg bl tpd ∧ zTw g G q t B N tk cp sh fc gn ∧ zSt g G (ns31, 0) s31 bs31 (fun _ => 0) 0 ∧ zFrK [] G0 G := ⟨hM.1.kp (hf.kp (zni1 ne_x_s31 zni0)), hM.2.1.kp (hf.kp (zni1 ne_t_s31_0 zni0)) (hf.kp (zni1 ne_t_s31_1 zni0)) (hf.kp (zni1 ne_t_s31_2 zni0)), hw, hM.2.2.2.stepF hf fn_s31⟩
        show ZW g X 2 6 G 38 [(0, .ref x), (1, .int sold), (2, .int more), (3, .int down)] [.ref s31]
        refine z_astore hX dX0_told_38 40 rfl (Nat.le_of_ble_eq_true rfl) rfl (L' := [(0, .ref x), (1, .int sold), (2, .int more), (3, .int down), (4, .ref s31)]) rfl ?_
        refine z_iconst hX dX0_told_40 41 rfl zki_0 ?_
        refine z_istore hX dX0_told_41 43 rfl (Nat.le_of_ble_eq_true rfl) rfl (L' := [(0, .ref x), (1, .int sold), (2, .int more), (3, .int down), (4, .ref s31), (5, .int 0)]) rfl ?_
        refine z_iload hX dX0_told_43 45 rfl 5 rfl ?_
        refine z_iconst hX dX0_told_45 46 rfl zki_4 ?_
        refine z_icmp_ge hX dX0_told_46 49 rfl (tgt := 136) (by decide) (fun c4 => ?_) (fun c4 => ?_)
        · exact absurd c4 (by decide)
        refine z_iload hX dX0_told_49 51 rfl 5 rfl ?_
        refine z_iconst hX dX0_told_51 52 rfl zki_2 ?_
        refine z_icmp_ge hX dX0_told_52 55 rfl (tgt := 59) (by decide) (fun c5 => ?_) (fun c5 => ?_)
        · exact absurd c5 (by decide)
        refine z_iload_n hX dX0_told_55 56 rfl (i := 1) rfl 1 rfl ?_
        refine z_goto hX dX0_told_56 (tgt := 60) (by decide) ?_
        refine z_istore hX dX0_told_60 62 rfl (Nat.le_of_ble_eq_true rfl) rfl (L' := [(0, .ref x), (1, .int sold), (2, .int more), (3, .int down), (4, .ref s31), (5, .int 0), (6, .int sold)]) rfl ?_
        refine z_aload hX dX0_told_62 64 rfl 4 rfl ?_
        refine z_getfN hX fX0_254 hM.2.2.1.o dX0_told_64 67 rfl (x := .ref bs31) rfl ?_
        refine z_iload hX dX0_told_67 69 rfl 5 rfl ?_
        refine z_iload hX dX0_told_69 71 rfl 5 rfl ?_
        refine z_iconst hX dX0_told_71 72 rfl zki_2 ?_
        refine z_irem hX dX0_told_72 73 rfl (by decide) (w := 0) (by decide) ?_
        refine z_if_ne hX dX0_told_73 76 rfl (tgt := 85) (by decide) (fun c6 => ?_) (fun c6 => ?_)
        · exact absurd rfl c6
        refine z_iload hX dX0_told_76 78 rfl 6 rfl ?_
        refine z_sipush hX dX0_told_78 81 rfl zks_1000 ?_
        refine z_idiv hX dX0_told_81 82 rfl (by decide) (w := sold / 1000) rfl ?_
        refine z_goto hX dX0_told_82 (tgt := 91) (by decide) ?_
        refine s_ast_sold hX hM.2.2.1 (show ¬ 0 = 9 from by decide) 0 (by omega) dX0_told_91 92 rfl (fun G hw hf => ?_)
        have hM : zFx G xq x t dq tp bg bl tpd ∧ zTw g G q t B N tk cp sh fc gn ∧ zSt g G (ns31, 0) s31 bs31 (upd (fun _ => 0) 0 (sold / 1000)) 0 ∧ zFrK [] G0 G := ⟨hM.1.kp (hf.kp (zni1 ne_x_s31 zni0)), hM.2.1.kp (hf.kp (zni1 ne_t_s31_0 zni0)) (hf.kp (zni1 ne_t_s31_1 zni0)) (hf.kp (zni1 ne_t_s31_2 zni0)), hw, hM.2.2.2.stepF hf fn_s31⟩
        refine z_aload hX dX0_told_92 94 rfl 4 rfl ?_
        refine z_getfN hX fX0_254 hM.2.2.1.o dX0_told_94 97 rfl (x := .ref bs31) rfl ?_
        refine z_iload hX dX0_told_97 99 rfl 5 rfl ?_
        refine z_ialdF hX hM.2.2.1.2 (j := 0) (by omega) (by decide) dX0_told_99 100 rfl (w := (sold / 1000)) pk_us ?_
        refine z_aload_n hX dX0_told_100 101 rfl (i := 0) rfl 0 rfl ?_
        refine z_getf hX fX0_10 hM.1.o dX0_told_101 104 rfl (x := .ref t) rfl ?_
        refine z_iload hX dX0_told_104 106 rfl 5 rfl ?_
        obtain ⟨opr, os1, os2, of1, of2, ob1, ob2, hT9, h19, h29⟩ := id hM.2.1
        refine z_callVp hX cwX0_82 (w := .int (if zin 0 A then 1 else 0 : Int32)) (met_X1_isAsset hG hT9 hN 0) hT9.o rfl rfl dX0_told_106 109 rfl rfl rfl (Nat.le_of_ble_eq_true rfl) (by decide) ⟨by omega, by omega⟩ ?_
        have J8 : ZW g X 2 6 G 125 [(0, .ref x), (1, .int sold), (2, .int more), (3, .int down), (4, .ref s31), (5, .int 0), (6, .int sold)] [.int (if zin 0 A then x1_held N 0 else 0 : Int32), .int (sold / 1000)] := by
          refine z_icmp_le hX dX0_told_125 128 rfl (tgt := 130) (by decide) (fun c9 => ?_) (fun c9 => ?_)
          ·
            refine z_iinc hX dX0_told_130 133 rfl 5 rfl (w := 1) (by decide) (Nat.le_of_ble_eq_true rfl) rfl (L' := [(0, .ref x), (1, .int sold), (2, .int more), (3, .int down), (4, .ref s31), (5, .int 1), (6, .int sold)]) rfl ?_
            refine z_goto hX dX0_told_133 (tgt := 43) (by decide) ?_
            refine z_iload hX dX0_told_43 45 rfl 5 rfl ?_
            refine z_iconst hX dX0_told_45 46 rfl zki_4 ?_
            refine z_icmp_ge hX dX0_told_46 49 rfl (tgt := 136) (by decide) (fun c10 => ?_) (fun c10 => ?_)
            · exact absurd c10 (by decide)
            refine z_iload hX dX0_told_49 51 rfl 5 rfl ?_
            refine z_iconst hX dX0_told_51 52 rfl zki_2 ?_
            refine z_icmp_ge hX dX0_told_52 55 rfl (tgt := 59) (by decide) (fun c11 => ?_) (fun c11 => ?_)
            · exact absurd c11 (by decide)
            refine z_iload_n hX dX0_told_55 56 rfl (i := 1) rfl 1 rfl ?_
            refine z_goto hX dX0_told_56 (tgt := 60) (by decide) ?_
            refine z_istore hX dX0_told_60 62 rfl (Nat.le_of_ble_eq_true rfl) rfl (L' := [(0, .ref x), (1, .int sold), (2, .int more), (3, .int down), (4, .ref s31), (5, .int 1), (6, .int sold)]) rfl ?_
            refine z_aload hX dX0_told_62 64 rfl 4 rfl ?_
            refine z_getfN hX fX0_254 hM.2.2.1.o dX0_told_64 67 rfl (x := .ref bs31) rfl ?_
            refine z_iload hX dX0_told_67 69 rfl 5 rfl ?_
            refine z_iload hX dX0_told_69 71 rfl 5 rfl ?_
            refine z_iconst hX dX0_told_71 72 rfl zki_2 ?_
            refine z_irem hX dX0_told_72 73 rfl (by decide) (w := 1) (by decide) ?_
            refine z_if_ne hX dX0_told_73 76 rfl (tgt := 85) (by decide) (fun c12 => ?_) (fun c12 => ?_)
            rotate_left 1
            · exact absurd c12 (by decide)
            refine z_iload hX dX0_told_85 87 rfl 6 rfl ?_
            refine z_sipush hX dX0_told_87 90 rfl zks_1000 ?_
            refine z_irem hX dX0_told_90 91 rfl (by decide) (w := sold - sold / 1000 * 1000) rfl ?_
            refine s_ast_sold hX hM.2.2.1 (show ¬ 0 = 9 from by decide) 1 (by omega) dX0_told_91 92 rfl (fun G hw hf => ?_)
            have hM : zFx G xq x t dq tp bg bl tpd ∧ zTw g G q t B N tk cp sh fc gn ∧ zSt g G (ns31, 0) s31 bs31 (upd (upd (fun _ => 0) 0 (sold / 1000)) 1 (sold - sold / 1000 * 1000)) 0 ∧ zFrK [] G0 G := ⟨hM.1.kp (hf.kp (zni1 ne_x_s31 zni0)), hM.2.1.kp (hf.kp (zni1 ne_t_s31_0 zni0)) (hf.kp (zni1 ne_t_s31_1 zni0)) (hf.kp (zni1 ne_t_s31_2 zni0)), hw, hM.2.2.2.stepF hf fn_s31⟩
            refine z_aload hX dX0_told_92 94 rfl 4 rfl ?_
            refine z_getfN hX fX0_254 hM.2.2.1.o dX0_told_94 97 rfl (x := .ref bs31) rfl ?_
            refine z_iload hX dX0_told_97 99 rfl 5 rfl ?_
            refine z_ialdF hX hM.2.2.1.2 (j := 1) (by omega) (by decide) dX0_told_99 100 rfl (w := (sold - sold / 1000 * 1000)) pk_us ?_
            refine z_aload_n hX dX0_told_100 101 rfl (i := 0) rfl 0 rfl ?_
            refine z_getf hX fX0_10 hM.1.o dX0_told_101 104 rfl (x := .ref t) rfl ?_
            refine z_iload hX dX0_told_104 106 rfl 5 rfl ?_
            obtain ⟨opr, os1, os2, of1, of2, ob1, ob2, hT9, h19, h29⟩ := id hM.2.1
            refine z_callVp hX cwX0_82 (w := .int (if zin 1 A then 1 else 0 : Int32)) (met_X1_isAsset hG hT9 hN 1) hT9.o rfl rfl dX0_told_106 109 rfl rfl rfl (Nat.le_of_ble_eq_true rfl) (by decide) ⟨by omega, by omega⟩ ?_
            have J14 : ZW g X 2 6 G 125 [(0, .ref x), (1, .int sold), (2, .int more), (3, .int down), (4, .ref s31), (5, .int 1), (6, .int sold)] [.int (if zin 1 A then x1_held N 1 else 0 : Int32), .int (sold - sold / 1000 * 1000)] := by
              refine z_icmp_le hX dX0_told_125 128 rfl (tgt := 130) (by decide) (fun c15 => ?_) (fun c15 => ?_)
              ·
                refine z_iinc hX dX0_told_130 133 rfl 5 rfl (w := 2) (by decide) (Nat.le_of_ble_eq_true rfl) rfl (L' := [(0, .ref x), (1, .int sold), (2, .int more), (3, .int down), (4, .ref s31), (5, .int 2), (6, .int sold)]) rfl ?_
                refine z_goto hX dX0_told_133 (tgt := 43) (by decide) ?_
                refine z_iload hX dX0_told_43 45 rfl 5 rfl ?_
                refine z_iconst hX dX0_told_45 46 rfl zki_4 ?_
                refine z_icmp_ge hX dX0_told_46 49 rfl (tgt := 136) (by decide) (fun c16 => ?_) (fun c16 => ?_)
                · exact absurd c16 (by decide)
                refine z_iload hX dX0_told_49 51 rfl 5 rfl ?_
                refine z_iconst hX dX0_told_51 52 rfl zki_2 ?_
                refine z_icmp_ge hX dX0_told_52 55 rfl (tgt := 59) (by decide) (fun c17 => ?_) (fun c17 => ?_)
                rotate_left 1
                · exact absurd (by decide) c17
                refine z_iload_n hX dX0_told_59 60 rfl (i := 2) rfl 2 rfl ?_
                refine z_istore hX dX0_told_60 62 rfl (Nat.le_of_ble_eq_true rfl) rfl (L' := [(0, .ref x), (1, .int sold), (2, .int more), (3, .int down), (4, .ref s31), (5, .int 2), (6, .int more)]) rfl ?_
                refine z_aload hX dX0_told_62 64 rfl 4 rfl ?_
                refine z_getfN hX fX0_254 hM.2.2.1.o dX0_told_64 67 rfl (x := .ref bs31) rfl ?_
                refine z_iload hX dX0_told_67 69 rfl 5 rfl ?_
                refine z_iload hX dX0_told_69 71 rfl 5 rfl ?_
                refine z_iconst hX dX0_told_71 72 rfl zki_2 ?_
                refine z_irem hX dX0_told_72 73 rfl (by decide) (w := 0) (by decide) ?_
                refine z_if_ne hX dX0_told_73 76 rfl (tgt := 85) (by decide) (fun c18 => ?_) (fun c18 => ?_)
                · exact absurd rfl c18
                refine z_iload hX dX0_told_76 78 rfl 6 rfl ?_
                refine z_sipush hX dX0_told_78 81 rfl zks_1000 ?_
                refine z_idiv hX dX0_told_81 82 rfl (by decide) (w := more / 1000) rfl ?_
                refine z_goto hX dX0_told_82 (tgt := 91) (by decide) ?_
                refine s_ast_sold hX hM.2.2.1 (show ¬ 0 = 9 from by decide) 2 (by omega) dX0_told_91 92 rfl (fun G hw hf => ?_)
                have hM : zFx G xq x t dq tp bg bl tpd ∧ zTw g G q t B N tk cp sh fc gn ∧ zSt g G (ns31, 0) s31 bs31 (upd (upd (upd (fun _ => 0) 0 (sold / 1000)) 1 (sold - sold / 1000 * 1000)) 2 (more / 1000)) 0 ∧ zFrK [] G0 G := ⟨hM.1.kp (hf.kp (zni1 ne_x_s31 zni0)), hM.2.1.kp (hf.kp (zni1 ne_t_s31_0 zni0)) (hf.kp (zni1 ne_t_s31_1 zni0)) (hf.kp (zni1 ne_t_s31_2 zni0)), hw, hM.2.2.2.stepF hf fn_s31⟩
                refine z_aload hX dX0_told_92 94 rfl 4 rfl ?_
                refine z_getfN hX fX0_254 hM.2.2.1.o dX0_told_94 97 rfl (x := .ref bs31) rfl ?_
                refine z_iload hX dX0_told_97 99 rfl 5 rfl ?_
                refine z_ialdF hX hM.2.2.1.2 (j := 2) (by omega) (by decide) dX0_told_99 100 rfl (w := (more / 1000)) pk_us ?_
                refine z_aload_n hX dX0_told_100 101 rfl (i := 0) rfl 0 rfl ?_
                refine z_getf hX fX0_10 hM.1.o dX0_told_101 104 rfl (x := .ref t) rfl ?_
                refine z_iload hX dX0_told_104 106 rfl 5 rfl ?_
                obtain ⟨opr, os1, os2, of1, of2, ob1, ob2, hT9, h19, h29⟩ := id hM.2.1
                refine z_callVp hX cwX0_82 (w := .int (if zin 2 A then 1 else 0 : Int32)) (met_X1_isAsset hG hT9 hN 2) hT9.o rfl rfl dX0_told_106 109 rfl rfl rfl (Nat.le_of_ble_eq_true rfl) (by decide) ⟨by omega, by omega⟩ ?_
                have J20 : ZW g X 2 6 G 125 [(0, .ref x), (1, .int sold), (2, .int more), (3, .int down), (4, .ref s31), (5, .int 2), (6, .int more)] [.int (if zin 2 A then x1_held N 2 else 0 : Int32), .int (more / 1000)] := by
                  refine z_icmp_le hX dX0_told_125 128 rfl (tgt := 130) (by decide) (fun c21 => ?_) (fun c21 => ?_)
                  ·
                    refine z_iinc hX dX0_told_130 133 rfl 5 rfl (w := 3) (by decide) (Nat.le_of_ble_eq_true rfl) rfl (L' := [(0, .ref x), (1, .int sold), (2, .int more), (3, .int down), (4, .ref s31), (5, .int 3), (6, .int more)]) rfl ?_
                    refine z_goto hX dX0_told_133 (tgt := 43) (by decide) ?_
                    refine z_iload hX dX0_told_43 45 rfl 5 rfl ?_
                    refine z_iconst hX dX0_told_45 46 rfl zki_4 ?_
                    refine z_icmp_ge hX dX0_told_46 49 rfl (tgt := 136) (by decide) (fun c22 => ?_) (fun c22 => ?_)
                    · exact absurd c22 (by decide)
                    refine z_iload hX dX0_told_49 51 rfl 5 rfl ?_
                    refine z_iconst hX dX0_told_51 52 rfl zki_2 ?_
                    refine z_icmp_ge hX dX0_told_52 55 rfl (tgt := 59) (by decide) (fun c23 => ?_) (fun c23 => ?_)
                    rotate_left 1
                    · exact absurd (by decide) c23
                    refine z_iload_n hX dX0_told_59 60 rfl (i := 2) rfl 2 rfl ?_
                    refine z_istore hX dX0_told_60 62 rfl (Nat.le_of_ble_eq_true rfl) rfl (L' := [(0, .ref x), (1, .int sold), (2, .int more), (3, .int down), (4, .ref s31), (5, .int 3), (6, .int more)]) rfl ?_
                    refine z_aload hX dX0_told_62 64 rfl 4 rfl ?_
                    refine z_getfN hX fX0_254 hM.2.2.1.o dX0_told_64 67 rfl (x := .ref bs31) rfl ?_
                    refine z_iload hX dX0_told_67 69 rfl 5 rfl ?_
                    refine z_iload hX dX0_told_69 71 rfl 5 rfl ?_
                    refine z_iconst hX dX0_told_71 72 rfl zki_2 ?_
                    refine z_irem hX dX0_told_72 73 rfl (by decide) (w := 1) (by decide) ?_
                    refine z_if_ne hX dX0_told_73 76 rfl (tgt := 85) (by decide) (fun c24 => ?_) (fun c24 => ?_)
                    rotate_left 1
                    · exact absurd c24 (by decide)
                    refine z_iload hX dX0_told_85 87 rfl 6 rfl ?_
                    refine z_sipush hX dX0_told_87 90 rfl zks_1000 ?_
                    refine z_irem hX dX0_told_90 91 rfl (by decide) (w := more - more / 1000 * 1000) rfl ?_
                    refine s_ast_sold hX hM.2.2.1 (show ¬ 0 = 9 from by decide) 3 (by omega) dX0_told_91 92 rfl (fun G hw hf => ?_)
                    have hM : zFx G xq x t dq tp bg bl tpd ∧ zTw g G q t B N tk cp sh fc gn ∧ zSt g G (ns31, 0) s31 bs31 (upd (upd (upd (upd (fun _ => 0) 0 (sold / 1000)) 1 (sold - sold / 1000 * 1000)) 2 (more / 1000)) 3 (more - more / 1000 * 1000)) 0 ∧ zFrK [] G0 G := ⟨hM.1.kp (hf.kp (zni1 ne_x_s31 zni0)), hM.2.1.kp (hf.kp (zni1 ne_t_s31_0 zni0)) (hf.kp (zni1 ne_t_s31_1 zni0)) (hf.kp (zni1 ne_t_s31_2 zni0)), hw, hM.2.2.2.stepF hf fn_s31⟩
                    refine z_aload hX dX0_told_92 94 rfl 4 rfl ?_
                    refine z_getfN hX fX0_254 hM.2.2.1.o dX0_told_94 97 rfl (x := .ref bs31) rfl ?_
                    refine z_iload hX dX0_told_97 99 rfl 5 rfl ?_
                    refine z_ialdF hX hM.2.2.1.2 (j := 3) (by omega) (by decide) dX0_told_99 100 rfl (w := (more - more / 1000 * 1000)) pk_us ?_
                    refine z_aload_n hX dX0_told_100 101 rfl (i := 0) rfl 0 rfl ?_
                    refine z_getf hX fX0_10 hM.1.o dX0_told_101 104 rfl (x := .ref t) rfl ?_
                    refine z_iload hX dX0_told_104 106 rfl 5 rfl ?_
                    obtain ⟨opr, os1, os2, of1, of2, ob1, ob2, hT9, h19, h29⟩ := id hM.2.1
                    refine z_callVp hX cwX0_82 (w := .int (if zin 3 A then 1 else 0 : Int32)) (met_X1_isAsset hG hT9 hN 3) hT9.o rfl rfl dX0_told_106 109 rfl rfl rfl (Nat.le_of_ble_eq_true rfl) (by decide) ⟨by omega, by omega⟩ ?_
                    have J26 : ZW g X 2 6 G 125 [(0, .ref x), (1, .int sold), (2, .int more), (3, .int down), (4, .ref s31), (5, .int 3), (6, .int more)] [.int (if zin 3 A then x1_held N 3 else 0 : Int32), .int (more - more / 1000 * 1000)] := by
                      refine z_icmp_le hX dX0_told_125 128 rfl (tgt := 130) (by decide) (fun c27 => ?_) (fun c27 => ?_)
                      ·
                        refine z_iinc hX dX0_told_130 133 rfl 5 rfl (w := 4) (by decide) (Nat.le_of_ble_eq_true rfl) rfl (L' := [(0, .ref x), (1, .int sold), (2, .int more), (3, .int down), (4, .ref s31), (5, .int 4), (6, .int more)]) rfl ?_
                        refine z_goto hX dX0_told_133 (tgt := 43) (by decide) ?_
                        refine z_iload hX dX0_told_43 45 rfl 5 rfl ?_
                        refine z_iconst hX dX0_told_45 46 rfl zki_4 ?_
                        refine z_icmp_ge hX dX0_told_46 49 rfl (tgt := 136) (by decide) (fun c28 => ?_) (fun c28 => ?_)
                        rotate_left 1
                        · exact absurd (by decide) c28
                        refine z_aload hX dX0_told_136 138 rfl 4 rfl ?_
                        refine z_iload_n hX dX0_told_138 139 rfl (i := 3) rfl 3 rfl ?_
                        refine s_put_fallenN hX hM.2.2.1 (show ¬ 0 = 9 from by decide) fX0_145 dX0_told_139 142 rfl (fun G hw hf => ?_)
                        have hM : zFx G xq x t dq tp bg bl tpd ∧ zTw g G q t B N tk cp sh fc gn ∧ zSt g G (ns31, 0) s31 bs31 (upd (upd (upd (upd (fun _ => 0) 0 (sold / 1000)) 1 (sold - sold / 1000 * 1000)) 2 (more / 1000)) 3 (more - more / 1000 * 1000)) down ∧ zFrK [] G0 G := ⟨hM.1.kp (hf.kp (zni1 ne_x_s31 zni0)), hM.2.1.kp (hf.kp (zni1 ne_t_s31_0 zni0)) (hf.kp (zni1 ne_t_s31_1 zni0)) (hf.kp (zni1 ne_t_s31_2 zni0)), hw, hM.2.2.2.stepF hf fn_s31⟩
                        refine z_aload hX dX0_told_142 144 rfl 4 rfl ?_
                        have hC : x0_told_is N A H sold more down := (by simp only [if_neg c1, if_neg c2, if_pos c3, if_pos c9, if_pos c15, if_pos c21, if_pos c27]; first | done | trivial | simp)
                        exact z_aret hX hQ (by omega) (by omega) rfl (Or.inl ⟨_, rfl⟩) dX0_told_144 ⟨_, _, _, fn_s31, by rw [if_pos hC], hM.1, hM.2.1, fun _ => (by first | exact hM.2.2.1 | (simpa only [if_neg c1, if_neg c2, if_pos c3, if_pos c9, if_pos c15, if_pos c21, if_pos c27] using hM.2.2.1)), hM.2.2.2⟩
                      ·
                        refine z_null hX dX0_told_128 129 rfl ?_
                        have hC : ¬ (x0_told_is N A H sold more down) := (by simp only [if_neg c1, if_neg c2, if_pos c3, if_pos c9, if_pos c15, if_pos c21, if_neg c27]; first | done | exact fun h => h | simp)
                        refine z_fresh (fun nZ hzZ => ?_)
                        exact z_aretN hX hQ (by omega) (by omega) rfl (Or.inl ⟨_, rfl⟩) dX0_told_129 ⟨nZ, 0, 0, hzZ.of' hM.2.2.2 zfm0, by rw [if_neg hC], hM.1, hM.2.1, fun h => absurd h hC, hM.2.2.2⟩
                    refine z_if_eqP hX (zin 3 A) dX0_told_109 112 rfl (tgt := 124) (by decide) (fun c25 => ?_) (fun c25 => ?_)
                    ·
                      refine z_iconst hX dX0_told_124 125 rfl zki_0 ?_
                      exact z_eqL rfl (by first | (simp only [if_neg c1, if_neg c2, if_pos c3, if_pos c9, if_pos c15, if_pos c21, if_neg c25] <;> rfl; done) | grind) J26
                    ·
                      have e_3 := zin_eq c25
                      have l_3 := zin_lt c25
                      refine z_aload_n hX dX0_told_112 113 rfl (i := 0) rfl 0 rfl ?_
                      refine z_getf hX fX0_10 hM.1.o dX0_told_113 116 rfl (x := .ref t) rfl ?_
                      refine z_iload hX dX0_told_116 118 rfl 5 rfl ?_
                      obtain ⟨opr, os1, os2, of1, of2, ob1, ob2, hT9, h19, h29⟩ := id hM.2.1
                      refine z_callVp hX cwX0_171 (w := .int (x1_held N 3)) (met_X1_held hG hT9 3 (by omega)) hT9.o rfl rfl dX0_told_118 121 rfl rfl rfl (Nat.le_of_ble_eq_true rfl) (by decide) ⟨by omega, by omega⟩ ?_
                      refine z_goto hX dX0_told_121 (tgt := 125) (by decide) ?_
                      exact z_eqL rfl (by first | (simp only [if_neg c1, if_neg c2, if_pos c3, if_pos c9, if_pos c15, if_pos c21, if_pos c25] <;> rfl; done) | grind) J26
                  ·
                    refine z_null hX dX0_told_128 129 rfl ?_
                    have hC : ¬ (x0_told_is N A H sold more down) := (by simp only [if_neg c1, if_neg c2, if_pos c3, if_pos c9, if_pos c15, if_neg c21]; first | done | exact fun h => h | simp)
                    refine z_fresh (fun nZ hzZ => ?_)
                    exact z_aretN hX hQ (by omega) (by omega) rfl (Or.inl ⟨_, rfl⟩) dX0_told_129 ⟨nZ, 0, 0, hzZ.of' hM.2.2.2 zfm0, by rw [if_neg hC], hM.1, hM.2.1, fun h => absurd h hC, hM.2.2.2⟩
                refine z_if_eqP hX (zin 2 A) dX0_told_109 112 rfl (tgt := 124) (by decide) (fun c19 => ?_) (fun c19 => ?_)
                ·
                  refine z_iconst hX dX0_told_124 125 rfl zki_0 ?_
                  exact z_eqL rfl (by first | (simp only [if_neg c1, if_neg c2, if_pos c3, if_pos c9, if_pos c15, if_neg c19] <;> rfl; done) | grind) J20
                ·
                  have e_2 := zin_eq c19
                  have l_2 := zin_lt c19
                  refine z_aload_n hX dX0_told_112 113 rfl (i := 0) rfl 0 rfl ?_
                  refine z_getf hX fX0_10 hM.1.o dX0_told_113 116 rfl (x := .ref t) rfl ?_
                  refine z_iload hX dX0_told_116 118 rfl 5 rfl ?_
                  obtain ⟨opr, os1, os2, of1, of2, ob1, ob2, hT9, h19, h29⟩ := id hM.2.1
                  refine z_callVp hX cwX0_171 (w := .int (x1_held N 2)) (met_X1_held hG hT9 2 (by omega)) hT9.o rfl rfl dX0_told_118 121 rfl rfl rfl (Nat.le_of_ble_eq_true rfl) (by decide) ⟨by omega, by omega⟩ ?_
                  refine z_goto hX dX0_told_121 (tgt := 125) (by decide) ?_
                  exact z_eqL rfl (by first | (simp only [if_neg c1, if_neg c2, if_pos c3, if_pos c9, if_pos c15, if_pos c19] <;> rfl; done) | grind) J20
              ·
                refine z_null hX dX0_told_128 129 rfl ?_
                have hC : ¬ (x0_told_is N A H sold more down) := (by simp only [if_neg c1, if_neg c2, if_pos c3, if_pos c9, if_neg c15]; first | done | exact fun h => h | simp)
                refine z_fresh (fun nZ hzZ => ?_)
                exact z_aretN hX hQ (by omega) (by omega) rfl (Or.inl ⟨_, rfl⟩) dX0_told_129 ⟨nZ, 0, 0, hzZ.of' hM.2.2.2 zfm0, by rw [if_neg hC], hM.1, hM.2.1, fun h => absurd h hC, hM.2.2.2⟩
            refine z_if_eqP hX (zin 1 A) dX0_told_109 112 rfl (tgt := 124) (by decide) (fun c13 => ?_) (fun c13 => ?_)
            ·
              refine z_iconst hX dX0_told_124 125 rfl zki_0 ?_
              exact z_eqL rfl (by first | (simp only [if_neg c1, if_neg c2, if_pos c3, if_pos c9, if_neg c13] <;> rfl; done) | grind) J14
            ·
              have e_1 := zin_eq c13
              have l_1 := zin_lt c13
              refine z_aload_n hX dX0_told_112 113 rfl (i := 0) rfl 0 rfl ?_
              refine z_getf hX fX0_10 hM.1.o dX0_told_113 116 rfl (x := .ref t) rfl ?_
              refine z_iload hX dX0_told_116 118 rfl 5 rfl ?_
              obtain ⟨opr, os1, os2, of1, of2, ob1, ob2, hT9, h19, h29⟩ := id hM.2.1
              refine z_callVp hX cwX0_171 (w := .int (x1_held N 1)) (met_X1_held hG hT9 1 (by omega)) hT9.o rfl rfl dX0_told_118 121 rfl rfl rfl (Nat.le_of_ble_eq_true rfl) (by decide) ⟨by omega, by omega⟩ ?_
              refine z_goto hX dX0_told_121 (tgt := 125) (by decide) ?_
              exact z_eqL rfl (by first | (simp only [if_neg c1, if_neg c2, if_pos c3, if_pos c9, if_pos c13] <;> rfl; done) | grind) J14
          ·
            refine z_null hX dX0_told_128 129 rfl ?_
            have hC : ¬ (x0_told_is N A H sold more down) := (by simp only [if_neg c1, if_neg c2, if_pos c3, if_neg c9]; first | done | exact fun h => h | simp)
            refine z_fresh (fun nZ hzZ => ?_)
            exact z_aretN hX hQ (by omega) (by omega) rfl (Or.inl ⟨_, rfl⟩) dX0_told_129 ⟨nZ, 0, 0, hzZ.of' hM.2.2.2 zfm0, by rw [if_neg hC], hM.1, hM.2.1, fun h => absurd h hC, hM.2.2.2⟩
        refine z_if_eqP hX (zin 0 A) dX0_told_109 112 rfl (tgt := 124) (by decide) (fun c7 => ?_) (fun c7 => ?_)
        ·
          refine z_iconst hX dX0_told_124 125 rfl zki_0 ?_
          exact z_eqL rfl (by first | (simp only [if_neg c1, if_neg c2, if_pos c3, if_neg c7] <;> rfl; done) | grind) J8
        ·
          have e_0 := zin_eq c7
          have l_0 := zin_lt c7
          refine z_aload_n hX dX0_told_112 113 rfl (i := 0) rfl 0 rfl ?_
          refine z_getf hX fX0_10 hM.1.o dX0_told_113 116 rfl (x := .ref t) rfl ?_
          refine z_iload hX dX0_told_116 118 rfl 5 rfl ?_
          obtain ⟨opr, os1, os2, of1, of2, ob1, ob2, hT9, h19, h29⟩ := id hM.2.1
          refine z_callVp hX cwX0_171 (w := .int (x1_held N 0)) (met_X1_held hG hT9 0 (by omega)) hT9.o rfl rfl dX0_told_118 121 rfl rfl rfl (Nat.le_of_ble_eq_true rfl) (by decide) ⟨by omega, by omega⟩ ?_
          refine z_goto hX dX0_told_121 (tgt := 125) (by decide) ?_
          exact z_eqL rfl (by first | (simp only [if_neg c1, if_neg c2, if_pos c3, if_pos c7] <;> rfl; done) | grind) J8
      ·
        refine z_null hX dX0_told_29 30 rfl ?_
        have hC : ¬ (x0_told_is N A H sold more down) := (by simp only [if_neg c1, if_neg c2, if_neg c3]; first | done | exact fun h => h | simp)
        refine z_fresh (fun nZ hzZ => ?_)
        exact z_aretN hX hQ (by omega) (by omega) rfl (Or.inl ⟨_, rfl⟩) dX0_told_30 ⟨nZ, 0, 0, hzZ.of' hM.2.2 zfm0, by rw [if_neg hC], hM.1, hM.2.1, fun h => absurd h hC, hM.2.2⟩
noncomputable def x0_next (N : Nat → Int32) (tk : Nat → Int32) (cp : Nat → Int32) (sh : Nat → Int32) (fc : Int32) (A : Nat) (H : Nat) (K : Nat → Nat) (sold : Int32) (more : Int32) (down : Int32) (what : Int32) : Int32 := (if zin what 8 then (if 4 ≤ what.toNatClampNeg then (if x0_told_is N A H sold more down then x1_tells N tk sh (x1_behind_2_res_sold N tk cp sh fc (x0_told_res_sold N A H sold more down) (x0_told_res_fallen N A H sold more down) A H K 1) (x1_behind_2_res_fallen N tk cp sh fc (x0_told_res_sold N A H sold more down) (x0_told_res_fallen N A H sold more down) A H K 1) A K (nI what.toNatClampNeg) else (-2) : Int32) else (if zin (nI what.toNatClampNeg) A then (if x0_told_is N A H sold more down then x1_tells N tk sh (x1_behind_2_res_sold N tk cp sh fc (x0_told_res_sold N A H sold more down) (x0_told_res_fallen N A H sold more down) A H K 1) (x1_behind_2_res_fallen N tk cp sh fc (x0_told_res_sold N A H sold more down) (x0_told_res_fallen N A H sold more down) A H K 1) A K (nI what.toNatClampNeg) else (-2) : Int32) else (-1) : Int32) : Int32) else (-1) : Int32)
noncomputable def x0_next_gn (N : Nat → Int32) (tk : Nat → Int32) (cp : Nat → Int32) (sh : Nat → Int32) (fc : Int32) (gn : Int32) (A : Nat) (H : Nat) (K : Nat → Nat) (sold : Int32) (more : Int32) (down : Int32) (what : Int32) : Int32 := if zin what 8 then if 4 ≤ what.toNatClampNeg then if x0_told_is N A H sold more down then x1_behind_2_gn N tk cp sh fc (x0_told_res_sold N A H sold more down) (x0_told_res_fallen N A H sold more down) A H K 1 else gn else if zin (nI what.toNatClampNeg) A then if x0_told_is N A H sold more down then x1_behind_2_gn N tk cp sh fc (x0_told_res_sold N A H sold more down) (x0_told_res_fallen N A H sold more down) A H K 1 else gn else gn else gn
set_option maxHeartbeats 4000000 in
theorem met_X0_next {g : Zg} (hG : zG g) {G0 : zHG} {xq x dq tp : Nat} {bg : Value} {bl tpd : Int32} {q t : Nat} {B : Nat → Nat → Nat} {N tk cp sh : Nat → Int32} {fc gn : Int32} (hx : zFx G0 xq x t dq tp bg bl tpd) (ht : zTw g G0 q t B N tk cp sh fc gn) {A H : Nat} {K : Nat → Nat} (hN : zWf N A H K) (ne_x_t_00 : (xq, 0) ≠ (q, 0)) (ne_x_t_01 : (xq, 0) ≠ (q, 1)) (ne_x_t_02 : (xq, 0) ≠ (q, 2)) (sold : Int32) (more : Int32) (down : Int32) (what : Int32)  : ZM g yX0_next cX0_next 6 (some FieldType.int) 10 5 16 [.ref x, .int sold, .int more, .int down, .int what] G0 (fun r G' => r = some (.int (x0_next N tk cp sh fc A H K sold more down what)) ∧ (zFx G' xq x t dq tp bg bl tpd ∧ zTw g G' q t B N tk cp sh fc (x0_next_gn N tk cp sh fc gn A H K sold more down what) ∧ zFrK [(q, 0), (q, 1), (q, 2)] G0 G')) := by
  unfold x0_next x0_next_gn
  have hN2 := hN.2.1
  have hN4 := hN.2.2.2.1
  refine ZM_mk hG (by decide) (Nat.le_of_ble_eq_true rfl) ?_
  intro X hX hname hQ
  obtain ⟨G, hGe⟩ : ∃ z, z = G0 := ⟨_, rfl⟩
  have hM : zFx G xq x t dq tp bg bl tpd ∧ zTw g G q t B N tk cp sh fc gn ∧ zFrK [(q, 0), (q, 1), (q, 2)] G0 G := by rw [hGe]; exact ⟨hx, ht, zFrK.rf⟩
  show ZW g X 0 0 G0 0 [(0, .ref x), (1, .int sold), (2, .int more), (3, .int down), (4, .int what)] []
  rw [← hGe]
  refine z_iload hX dX0_next_0 2 rfl 4 rfl ?_
  refine z_i2l hX dX0_next_2 3 rfl (w := (what).toInt64) (by first | rfl | decide) ?_
  refine z_lconst hX dX0_next_3 4 rfl (w := 0) rfl ?_
  refine z_ldc2 hX q899 dX0_next_4 7 rfl ?_
  refine z_eqL (L' := [(0, .ref x), (1, .int sold), (2, .int more), (3, .int down), (4, .int what)]) (st' := [.long ((7 : Int32).toInt64), .long ((0 : Int32).toInt64), .long ((what).toInt64)]) rfl (by rfl) ?_
  refine z_callSp hX cwX0_45 (w := .int (if zin what 8 then 1 else 0 : Int32)) (met_X0_inz hG what 7 8 (by decide)) dX0_next_7 10 rfl rfl rfl (Nat.le_of_ble_eq_true rfl) (by decide) ⟨Nat.zero_le _, Nat.zero_le _⟩ ?_
  refine z_if_eqP hX (zin what 8) dX0_next_10 13 rfl (tgt := 31) (by decide) (fun c1 => ?_) (fun c1 => ?_)
  ·
    refine z_iconst hX dX0_next_31 32 rfl zki_m1 ?_
    exact z_iret hX hQ (by omega) (by omega) rfl dX0_next_32 ⟨(by first | (simp only [if_neg c1] <;> rfl; done) | grind), (by first | (simpa only [if_neg c1] using hM) | ((try simp only [if_neg c1]); exact hM))⟩
  ·
    have e_what := zin_eq c1
    have l_what := zin_lt c1
    refine z_eqL (L' := [(0, .ref x), (1, .int sold), (2, .int more), (3, .int down), (4, .int (nI what.toNatClampNeg))]) (st' := []) (by rw [← e_what]) (by first | rfl | rw [← e_what]) ?_
    refine z_iload hX dX0_next_13 15 rfl 4 rfl ?_
    refine z_iconst hX dX0_next_15 16 rfl zki_4 ?_
    refine z_icmp_geN hX what.toNatClampNeg 4 (by omega) (by omega) dX0_next_16 19 rfl (tgt := 33) (by decide) (fun c2 => ?_) (fun c2 => ?_)
    ·
      refine z_aload_n hX dX0_next_33 34 rfl (i := 0) rfl 0 rfl ?_
      refine z_iload_n hX dX0_next_34 35 rfl (i := 1) rfl 1 rfl ?_
      refine z_iload_n hX dX0_next_35 36 rfl (i := 2) rfl 2 rfl ?_
      refine z_iload_n hX dX0_next_36 37 rfl (i := 3) rfl 3 rfl ?_
      refine z_callV hX cwX0_258 (met_X0_told hG hM.1 hM.2.1 hN sold more down) hM.1.o rfl rfl dX0_next_37 40 rfl rfl rfl (Nat.le_of_ble_eq_true rfl) (by decide) ⟨by omega, by omega⟩ (fun r G hP => ?_)
      obtain ⟨ns37, s37, bs37, hzs37, rfl, hP⟩ := hP
      have hOld := hM
      have hM : zFx G xq x t dq tp bg bl tpd ∧ zTw g G q t B N tk cp sh fc gn ∧ zFrK [(q, 0), (q, 1), (q, 2)] G0 G := ⟨hP.1, hP.2.1, hM.2.2.stepL hP.2.2.2 zml0⟩
      show ZW g X 2 6 G 40 [(0, .ref x), (1, .int sold), (2, .int more), (3, .int down), (4, .int (nI what.toNatClampNeg))] [(if x0_told_is N A H sold more down then .ref s37 else .null)]
      have hR9 := hP.2.2.1
      by_cases hC3 : x0_told_is N A H sold more down
      ·
        refine z_eqL (L' := [(0, .ref x), (1, .int sold), (2, .int more), (3, .int down), (4, .int (nI what.toNatClampNeg))]) (st' := [.ref s37]) rfl (by rw [if_pos hC3]) ?_
        have ne_x_s37 : (xq, 0) ≠ (ns37, 0) := hzs37.neT hOld.1.o
        obtain ⟨fs9, ho9⟩ := hOld.2.1.o
        have ne_t_s37_0 : (q, 0) ≠ (ns37, 0) := hzs37.neT ho9
        have ne_t_s37_1 : (q, 1) ≠ (ns37, 0) := hzs37.neT ho9
        have ne_t_s37_2 : (q, 2) ≠ (ns37, 0) := hzs37.neT ho9
        have nq_t_s37 : q ≠ ns37 := hzs37 _ _ _ ho9
        have fn_s37 : zFresh G0 ns37 := hzs37.of' hOld.2.2 (zfm1 nq_t_s37 (zfm1 nq_t_s37 (zfm1 nq_t_s37 zfm0)))
        have hM : zFx G xq x t dq tp bg bl tpd ∧ zTw g G q t B N tk cp sh fc gn ∧ zSt g G (ns37, 0) s37 bs37 (x0_told_res_sold N A H sold more down) (x0_told_res_fallen N A H sold more down) ∧ zFrK [(q, 0), (q, 1), (q, 2)] G0 G := ⟨hM.1, hM.2.1, hR9 hC3, hM.2.2⟩
        refine z_astore hX dX0_next_40 42 rfl (Nat.le_of_ble_eq_true rfl) rfl (L' := [(0, .ref x), (1, .int sold), (2, .int more), (3, .int down), (4, .int (nI what.toNatClampNeg)), (5, .ref s37)]) rfl ?_
        refine z_aload hX dX0_next_42 44 rfl 5 rfl ?_
        refine z_ifnonnull hX dX0_next_44 (tgt := 52) (by decide) ?_
        refine z_aload_n hX dX0_next_52 53 rfl (i := 0) rfl 0 rfl ?_
        refine z_getf hX fX0_10 hM.1.o dX0_next_53 56 rfl (x := .ref t) rfl ?_
        refine z_aload_n hX dX0_next_56 57 rfl (i := 0) rfl 0 rfl ?_
        refine z_getf hX fX0_10 hM.1.o dX0_next_57 60 rfl (x := .ref t) rfl ?_
        refine z_aload hX dX0_next_60 62 rfl 5 rfl ?_
        refine z_iconst hX dX0_next_62 63 rfl zki_1 ?_
        obtain ⟨fs9, ho9⟩ := hM.2.1.o
        refine z_callV hX cwX0_262 (met_X1_behind_2 hG hM.2.1 hM.2.2.1 hN ne_t_s37_0 ne_t_s37_1 ne_t_s37_2 1 (by omega)) ho9 rfl rfl dX0_next_63 66 rfl rfl rfl (Nat.le_of_ble_eq_true rfl) (by decide) ⟨by omega, by omega⟩ (fun r G hP => ?_)
        obtain ⟨ns63, s63, bs63, hzs63, rfl, hP⟩ := hP
        have ne_x_s63 : (xq, 0) ≠ (ns63, 0) := hzs63.neT hM.1.o
        obtain ⟨fs9, ho9⟩ := hM.2.1.o
        have ne_t_s63_0 : (q, 0) ≠ (ns63, 0) := hzs63.neT ho9
        have ne_t_s63_1 : (q, 1) ≠ (ns63, 0) := hzs63.neT ho9
        have ne_t_s63_2 : (q, 2) ≠ (ns63, 0) := hzs63.neT ho9
        have nq_t_s63 : q ≠ ns63 := hzs63 _ _ _ ho9
        have ne_s37_s63 : (ns37, 0) ≠ (ns63, 0) := hzs63.neS hM.2.2.1.o
        have fn_s63 : zFresh G0 ns63 := hzs63.of' hM.2.2.2 (zfm1 nq_t_s63 (zfm1 nq_t_s63 (zfm1 nq_t_s63 zfm0)))
        have hM : zFx G xq x t dq tp bg bl tpd ∧ zTw g G q t B N tk cp sh fc (x1_behind_2_gn N tk cp sh fc (x0_told_res_sold N A H sold more down) (x0_told_res_fallen N A H sold more down) A H K 1) ∧ zSt g G (ns37, 0) s37 bs37 (x0_told_res_sold N A H sold more down) (x0_told_res_fallen N A H sold more down) ∧ zSt g G (ns63, 0) s63 bs63 (x1_behind_2_res_sold N tk cp sh fc (x0_told_res_sold N A H sold more down) (x0_told_res_fallen N A H sold more down) A H K 1) (x1_behind_2_res_fallen N tk cp sh fc (x0_told_res_sold N A H sold more down) (x0_told_res_fallen N A H sold more down) A H K 1) ∧ zFrK [(q, 0), (q, 1), (q, 2)] G0 G := ⟨hM.1.kp (hP.2.2.2.kp (zni1 ne_x_t_00 (zni1 ne_x_t_01 (zni1 ne_x_t_02 zni0)))), hP.1, hP.2.1, hP.2.2.1, hM.2.2.2.stepL hP.2.2.2 (zml1 (Or.inl List.mem_cons_self) (zml1 (Or.inl (List.mem_cons_of_mem _ List.mem_cons_self)) (zml1 (Or.inl (List.mem_cons_of_mem _ (List.mem_cons_of_mem _ List.mem_cons_self))) zml0)))⟩
        show ZW g X 5 16 G 66 [(0, .ref x), (1, .int sold), (2, .int more), (3, .int down), (4, .int (nI what.toNatClampNeg)), (5, .ref s37)] [.ref s63, .ref t]
        refine z_iload hX dX0_next_66 68 rfl 4 rfl ?_
        obtain ⟨opr, os1, os2, of1, of2, ob1, ob2, hT9, h19, h29⟩ := id hM.2.1
        refine z_callVp hX cwX0_206 (w := .int (x1_tells N tk sh (x1_behind_2_res_sold N tk cp sh fc (x0_told_res_sold N A H sold more down) (x0_told_res_fallen N A H sold more down) A H K 1) (x1_behind_2_res_fallen N tk cp sh fc (x0_told_res_sold N A H sold more down) (x0_told_res_fallen N A H sold more down) A H K 1) A K (nI what.toNatClampNeg))) (met_X1_tells hG hT9 hM.2.2.2.1 hN (nI what.toNatClampNeg)) hT9.o rfl rfl dX0_next_68 71 rfl rfl rfl (Nat.le_of_ble_eq_true rfl) (by decide) ⟨by omega, by omega⟩ ?_
        have hM : zFx G xq x t dq tp bg bl tpd ∧ zTw g G q t B N tk cp sh fc (x1_behind_2_gn N tk cp sh fc (x0_told_res_sold N A H sold more down) (x0_told_res_fallen N A H sold more down) A H K 1) ∧ zFrK [(q, 0), (q, 1), (q, 2)] G0 G := ⟨hM.1, hM.2.1, hM.2.2.2.2⟩
        exact z_iret hX hQ (by omega) (by omega) rfl dX0_next_71 ⟨(by first | (simp only [if_pos c1, if_pos c2, if_pos hC3] <;> rfl; done) | grind), (by first | (simpa only [if_pos c1, if_pos c2, if_pos hC3] using hM) | ((try simp only [if_pos c1]); (try simp only [if_pos c2]); (try simp only [if_pos hC3]); exact hM))⟩
      ·
        refine z_eqL (L' := [(0, .ref x), (1, .int sold), (2, .int more), (3, .int down), (4, .int (nI what.toNatClampNeg))]) (st' := [.null]) rfl (by rw [if_neg hC3]) ?_
        refine z_astoreN hX dX0_next_40 42 rfl (Nat.le_of_ble_eq_true rfl) rfl (L' := [(0, .ref x), (1, .int sold), (2, .int more), (3, .int down), (4, .int (nI what.toNatClampNeg)), (5, .null)]) rfl ?_
        refine z_aloadN hX dX0_next_42 44 rfl 5 rfl ?_
        refine z_ifnonnullN hX dX0_next_44 47 rfl ?_
        refine z_bipush hX dX0_next_47 49 rfl zkb_m2 ?_
        refine z_goto hX dX0_next_49 (tgt := 71) (by decide) ?_
        exact z_iret hX hQ (by omega) (by omega) rfl dX0_next_71 ⟨(by first | (simp only [if_pos c1, if_pos c2, if_neg hC3] <;> rfl; done) | grind), (by first | (simpa only [if_pos c1, if_pos c2, if_neg hC3] using hM) | ((try simp only [if_pos c1]); (try simp only [if_pos c2]); (try simp only [if_neg hC3]); exact hM))⟩
    ·
      refine z_aload_n hX dX0_next_19 20 rfl (i := 0) rfl 0 rfl ?_
      refine z_getf hX fX0_10 hM.1.o dX0_next_20 23 rfl (x := .ref t) rfl ?_
      refine z_iload hX dX0_next_23 25 rfl 4 rfl ?_
      obtain ⟨opr, os1, os2, of1, of2, ob1, ob2, hT9, h19, h29⟩ := id hM.2.1
      refine z_callVp hX cwX0_82 (w := .int (if zin (nI what.toNatClampNeg) A then 1 else 0 : Int32)) (met_X1_isAsset hG hT9 hN (nI what.toNatClampNeg)) hT9.o rfl rfl dX0_next_25 28 rfl rfl rfl (Nat.le_of_ble_eq_true rfl) (by decide) ⟨Nat.zero_le _, Nat.zero_le _⟩ ?_
      refine z_if_neP hX (zin (nI what.toNatClampNeg) A) dX0_next_28 31 rfl (tgt := 33) (by decide) (fun c4 => ?_) (fun c4 => ?_)
      ·
        refine z_aload_n hX dX0_next_33 34 rfl (i := 0) rfl 0 rfl ?_
        refine z_iload_n hX dX0_next_34 35 rfl (i := 1) rfl 1 rfl ?_
        refine z_iload_n hX dX0_next_35 36 rfl (i := 2) rfl 2 rfl ?_
        refine z_iload_n hX dX0_next_36 37 rfl (i := 3) rfl 3 rfl ?_
        refine z_callV hX cwX0_258 (met_X0_told hG hM.1 hM.2.1 hN sold more down) hM.1.o rfl rfl dX0_next_37 40 rfl rfl rfl (Nat.le_of_ble_eq_true rfl) (by decide) ⟨by omega, by omega⟩ (fun r G hP => ?_)
        obtain ⟨ns37, s37, bs37, hzs37, rfl, hP⟩ := hP
        have hOld := hM
        have hM : zFx G xq x t dq tp bg bl tpd ∧ zTw g G q t B N tk cp sh fc gn ∧ zFrK [(q, 0), (q, 1), (q, 2)] G0 G := ⟨hP.1, hP.2.1, hM.2.2.stepL hP.2.2.2 zml0⟩
        show ZW g X 2 6 G 40 [(0, .ref x), (1, .int sold), (2, .int more), (3, .int down), (4, .int (nI what.toNatClampNeg))] [(if x0_told_is N A H sold more down then .ref s37 else .null)]
        have hR9 := hP.2.2.1
        by_cases hC5 : x0_told_is N A H sold more down
        ·
          refine z_eqL (L' := [(0, .ref x), (1, .int sold), (2, .int more), (3, .int down), (4, .int (nI what.toNatClampNeg))]) (st' := [.ref s37]) rfl (by rw [if_pos hC5]) ?_
          have ne_x_s37 : (xq, 0) ≠ (ns37, 0) := hzs37.neT hOld.1.o
          obtain ⟨fs9, ho9⟩ := hOld.2.1.o
          have ne_t_s37_0 : (q, 0) ≠ (ns37, 0) := hzs37.neT ho9
          have ne_t_s37_1 : (q, 1) ≠ (ns37, 0) := hzs37.neT ho9
          have ne_t_s37_2 : (q, 2) ≠ (ns37, 0) := hzs37.neT ho9
          have nq_t_s37 : q ≠ ns37 := hzs37 _ _ _ ho9
          have fn_s37 : zFresh G0 ns37 := hzs37.of' hOld.2.2 (zfm1 nq_t_s37 (zfm1 nq_t_s37 (zfm1 nq_t_s37 zfm0)))
          have hM : zFx G xq x t dq tp bg bl tpd ∧ zTw g G q t B N tk cp sh fc gn ∧ zSt g G (ns37, 0) s37 bs37 (x0_told_res_sold N A H sold more down) (x0_told_res_fallen N A H sold more down) ∧ zFrK [(q, 0), (q, 1), (q, 2)] G0 G := ⟨hM.1, hM.2.1, hR9 hC5, hM.2.2⟩
          refine z_astore hX dX0_next_40 42 rfl (Nat.le_of_ble_eq_true rfl) rfl (L' := [(0, .ref x), (1, .int sold), (2, .int more), (3, .int down), (4, .int (nI what.toNatClampNeg)), (5, .ref s37)]) rfl ?_
          refine z_aload hX dX0_next_42 44 rfl 5 rfl ?_
          refine z_ifnonnull hX dX0_next_44 (tgt := 52) (by decide) ?_
          refine z_aload_n hX dX0_next_52 53 rfl (i := 0) rfl 0 rfl ?_
          refine z_getf hX fX0_10 hM.1.o dX0_next_53 56 rfl (x := .ref t) rfl ?_
          refine z_aload_n hX dX0_next_56 57 rfl (i := 0) rfl 0 rfl ?_
          refine z_getf hX fX0_10 hM.1.o dX0_next_57 60 rfl (x := .ref t) rfl ?_
          refine z_aload hX dX0_next_60 62 rfl 5 rfl ?_
          refine z_iconst hX dX0_next_62 63 rfl zki_1 ?_
          obtain ⟨fs9, ho9⟩ := hM.2.1.o
          refine z_callV hX cwX0_262 (met_X1_behind_2 hG hM.2.1 hM.2.2.1 hN ne_t_s37_0 ne_t_s37_1 ne_t_s37_2 1 (by omega)) ho9 rfl rfl dX0_next_63 66 rfl rfl rfl (Nat.le_of_ble_eq_true rfl) (by decide) ⟨by omega, by omega⟩ (fun r G hP => ?_)
          obtain ⟨ns63, s63, bs63, hzs63, rfl, hP⟩ := hP
          have ne_x_s63 : (xq, 0) ≠ (ns63, 0) := hzs63.neT hM.1.o
          obtain ⟨fs9, ho9⟩ := hM.2.1.o
          have ne_t_s63_0 : (q, 0) ≠ (ns63, 0) := hzs63.neT ho9
          have ne_t_s63_1 : (q, 1) ≠ (ns63, 0) := hzs63.neT ho9
          have ne_t_s63_2 : (q, 2) ≠ (ns63, 0) := hzs63.neT ho9
          have nq_t_s63 : q ≠ ns63 := hzs63 _ _ _ ho9
          have ne_s37_s63 : (ns37, 0) ≠ (ns63, 0) := hzs63.neS hM.2.2.1.o
          have fn_s63 : zFresh G0 ns63 := hzs63.of' hM.2.2.2 (zfm1 nq_t_s63 (zfm1 nq_t_s63 (zfm1 nq_t_s63 zfm0)))
          have hM : zFx G xq x t dq tp bg bl tpd ∧ zTw g G q t B N tk cp sh fc (x1_behind_2_gn N tk cp sh fc (x0_told_res_sold N A H sold more down) (x0_told_res_fallen N A H sold more down) A H K 1) ∧ zSt g G (ns37, 0) s37 bs37 (x0_told_res_sold N A H sold more down) (x0_told_res_fallen N A H sold more down) ∧ zSt g G (ns63, 0) s63 bs63 (x1_behind_2_res_sold N tk cp sh fc (x0_told_res_sold N A H sold more down) (x0_told_res_fallen N A H sold more down) A H K 1) (x1_behind_2_res_fallen N tk cp sh fc (x0_told_res_sold N A H sold more down) (x0_told_res_fallen N A H sold more down) A H K 1) ∧ zFrK [(q, 0), (q, 1), (q, 2)] G0 G := ⟨hM.1.kp (hP.2.2.2.kp (zni1 ne_x_t_00 (zni1 ne_x_t_01 (zni1 ne_x_t_02 zni0)))), hP.1, hP.2.1, hP.2.2.1, hM.2.2.2.stepL hP.2.2.2 (zml1 (Or.inl List.mem_cons_self) (zml1 (Or.inl (List.mem_cons_of_mem _ List.mem_cons_self)) (zml1 (Or.inl (List.mem_cons_of_mem _ (List.mem_cons_of_mem _ List.mem_cons_self))) zml0)))⟩
          show ZW g X 5 16 G 66 [(0, .ref x), (1, .int sold), (2, .int more), (3, .int down), (4, .int (nI what.toNatClampNeg)), (5, .ref s37)] [.ref s63, .ref t]
          refine z_iload hX dX0_next_66 68 rfl 4 rfl ?_
          obtain ⟨opr, os1, os2, of1, of2, ob1, ob2, hT9, h19, h29⟩ := id hM.2.1
          refine z_callVp hX cwX0_206 (w := .int (x1_tells N tk sh (x1_behind_2_res_sold N tk cp sh fc (x0_told_res_sold N A H sold more down) (x0_told_res_fallen N A H sold more down) A H K 1) (x1_behind_2_res_fallen N tk cp sh fc (x0_told_res_sold N A H sold more down) (x0_told_res_fallen N A H sold more down) A H K 1) A K (nI what.toNatClampNeg))) (met_X1_tells hG hT9 hM.2.2.2.1 hN (nI what.toNatClampNeg)) hT9.o rfl rfl dX0_next_68 71 rfl rfl rfl (Nat.le_of_ble_eq_true rfl) (by decide) ⟨by omega, by omega⟩ ?_
          have hM : zFx G xq x t dq tp bg bl tpd ∧ zTw g G q t B N tk cp sh fc (x1_behind_2_gn N tk cp sh fc (x0_told_res_sold N A H sold more down) (x0_told_res_fallen N A H sold more down) A H K 1) ∧ zFrK [(q, 0), (q, 1), (q, 2)] G0 G := ⟨hM.1, hM.2.1, hM.2.2.2.2⟩
          exact z_iret hX hQ (by omega) (by omega) rfl dX0_next_71 ⟨(by first | (simp only [if_pos c1, if_neg (Nat.not_le.mpr c2), if_pos c4, if_pos hC5] <;> rfl; done) | grind), (by first | (simpa only [if_pos c1, if_neg (Nat.not_le.mpr c2), if_pos c4, if_pos hC5] using hM) | ((try simp only [if_pos c1]); (try simp only [if_neg (Nat.not_le.mpr c2)]); (try simp only [if_pos c4]); (try simp only [if_pos hC5]); exact hM))⟩
        ·
          refine z_eqL (L' := [(0, .ref x), (1, .int sold), (2, .int more), (3, .int down), (4, .int (nI what.toNatClampNeg))]) (st' := [.null]) rfl (by rw [if_neg hC5]) ?_
          refine z_astoreN hX dX0_next_40 42 rfl (Nat.le_of_ble_eq_true rfl) rfl (L' := [(0, .ref x), (1, .int sold), (2, .int more), (3, .int down), (4, .int (nI what.toNatClampNeg)), (5, .null)]) rfl ?_
          refine z_aloadN hX dX0_next_42 44 rfl 5 rfl ?_
          refine z_ifnonnullN hX dX0_next_44 47 rfl ?_
          refine z_bipush hX dX0_next_47 49 rfl zkb_m2 ?_
          refine z_goto hX dX0_next_49 (tgt := 71) (by decide) ?_
          exact z_iret hX hQ (by omega) (by omega) rfl dX0_next_71 ⟨(by first | (simp only [if_pos c1, if_neg (Nat.not_le.mpr c2), if_pos c4, if_neg hC5] <;> rfl; done) | grind), (by first | (simpa only [if_pos c1, if_neg (Nat.not_le.mpr c2), if_pos c4, if_neg hC5] using hM) | ((try simp only [if_pos c1]); (try simp only [if_neg (Nat.not_le.mpr c2)]); (try simp only [if_pos c4]); (try simp only [if_neg hC5]); exact hM))⟩
      ·
        refine z_iconst hX dX0_next_31 32 rfl zki_m1 ?_
        exact z_iret hX hQ (by omega) (by omega) rfl dX0_next_32 ⟨(by first | (simp only [if_pos c1, if_neg (Nat.not_le.mpr c2), if_neg c4] <;> rfl; done) | grind), (by first | (simpa only [if_pos c1, if_neg (Nat.not_le.mpr c2), if_neg c4] using hM) | ((try simp only [if_pos c1]); (try simp only [if_neg (Nat.not_le.mpr c2)]); (try simp only [if_neg c4]); exact hM))⟩
noncomputable def x0_isSteady (N : Nat → Int32) (tk : Nat → Int32) (cp : Nat → Int32) (sh : Nat → Int32) (fc : Int32) (A : Nat) (H : Nat) (K : Nat → Nat) (sold : Int32) (more : Int32) (down : Int32) : Int32 := (if x0_told_is N A H sold more down then (if x3_isLike (x1_behind_2_res_sold N tk cp sh fc (x0_told_res_sold N A H sold more down) (x0_told_res_fallen N A H sold more down) A H K 1) (x1_behind_2_res_fallen N tk cp sh fc (x0_told_res_sold N A H sold more down) (x0_told_res_fallen N A H sold more down) A H K 1) (x0_told_res_sold N A H sold more down) (x0_told_res_fallen N A H sold more down) then 1 else 0 : Int32) else (-2) : Int32)
noncomputable def x0_isSteady_gn (N : Nat → Int32) (tk : Nat → Int32) (cp : Nat → Int32) (sh : Nat → Int32) (fc : Int32) (gn : Int32) (A : Nat) (H : Nat) (K : Nat → Nat) (sold : Int32) (more : Int32) (down : Int32) : Int32 := if x0_told_is N A H sold more down then x1_behind_2_gn N tk cp sh fc (x0_told_res_sold N A H sold more down) (x0_told_res_fallen N A H sold more down) A H K 1 else gn
set_option maxHeartbeats 4000000 in
theorem met_X0_isSteady {g : Zg} (hG : zG g) {G0 : zHG} {xq x dq tp : Nat} {bg : Value} {bl tpd : Int32} {q t : Nat} {B : Nat → Nat → Nat} {N tk cp sh : Nat → Int32} {fc gn : Int32} (hx : zFx G0 xq x t dq tp bg bl tpd) (ht : zTw g G0 q t B N tk cp sh fc gn) {A H : Nat} {K : Nat → Nat} (hN : zWf N A H K) (ne_x_t_00 : (xq, 0) ≠ (q, 0)) (ne_x_t_01 : (xq, 0) ≠ (q, 1)) (ne_x_t_02 : (xq, 0) ≠ (q, 2)) (sold : Int32) (more : Int32) (down : Int32)  : ZM g yX0_isSteady cX0_isSteady 5 (some FieldType.int) 10 5 16 [.ref x, .int sold, .int more, .int down] G0 (fun r G' => r = some (.int (x0_isSteady N tk cp sh fc A H K sold more down)) ∧ (zFx G' xq x t dq tp bg bl tpd ∧ zTw g G' q t B N tk cp sh fc (x0_isSteady_gn N tk cp sh fc gn A H K sold more down) ∧ zFrK [(q, 0), (q, 1), (q, 2)] G0 G')) := by
  unfold x0_isSteady x0_isSteady_gn
  have hN2 := hN.2.1
  have hN4 := hN.2.2.2.1
  refine ZM_mk hG (by decide) (Nat.le_of_ble_eq_true rfl) ?_
  intro X hX hname hQ
  obtain ⟨G, hGe⟩ : ∃ z, z = G0 := ⟨_, rfl⟩
  have hM : zFx G xq x t dq tp bg bl tpd ∧ zTw g G q t B N tk cp sh fc gn ∧ zFrK [(q, 0), (q, 1), (q, 2)] G0 G := by rw [hGe]; exact ⟨hx, ht, zFrK.rf⟩
  show ZW g X 0 0 G0 0 [(0, .ref x), (1, .int sold), (2, .int more), (3, .int down)] []
  rw [← hGe]
  refine z_aload_n hX dX0_isSteady_0 1 rfl (i := 0) rfl 0 rfl ?_
  refine z_iload_n hX dX0_isSteady_1 2 rfl (i := 1) rfl 1 rfl ?_
  refine z_iload_n hX dX0_isSteady_2 3 rfl (i := 2) rfl 2 rfl ?_
  refine z_iload_n hX dX0_isSteady_3 4 rfl (i := 3) rfl 3 rfl ?_
  refine z_callV hX cwX0_258 (met_X0_told hG hM.1 hM.2.1 hN sold more down) hM.1.o rfl rfl dX0_isSteady_4 7 rfl rfl rfl (Nat.le_of_ble_eq_true rfl) (by decide) ⟨by omega, by omega⟩ (fun r G hP => ?_)
  obtain ⟨ns4, s4, bs4, hzs4, rfl, hP⟩ := hP
  have hOld := hM
  have hM : zFx G xq x t dq tp bg bl tpd ∧ zTw g G q t B N tk cp sh fc gn ∧ zFrK [(q, 0), (q, 1), (q, 2)] G0 G := ⟨hP.1, hP.2.1, hM.2.2.stepL hP.2.2.2 zml0⟩
  show ZW g X 2 6 G 7 [(0, .ref x), (1, .int sold), (2, .int more), (3, .int down)] [(if x0_told_is N A H sold more down then .ref s4 else .null)]
  have hR9 := hP.2.2.1
  by_cases hC1 : x0_told_is N A H sold more down
  ·
    refine z_eqL (L' := [(0, .ref x), (1, .int sold), (2, .int more), (3, .int down)]) (st' := [.ref s4]) rfl (by rw [if_pos hC1]) ?_
    have ne_x_s4 : (xq, 0) ≠ (ns4, 0) := hzs4.neT hOld.1.o
    obtain ⟨fs9, ho9⟩ := hOld.2.1.o
    have ne_t_s4_0 : (q, 0) ≠ (ns4, 0) := hzs4.neT ho9
    have ne_t_s4_1 : (q, 1) ≠ (ns4, 0) := hzs4.neT ho9
    have ne_t_s4_2 : (q, 2) ≠ (ns4, 0) := hzs4.neT ho9
    have nq_t_s4 : q ≠ ns4 := hzs4 _ _ _ ho9
    have fn_s4 : zFresh G0 ns4 := hzs4.of' hOld.2.2 (zfm1 nq_t_s4 (zfm1 nq_t_s4 (zfm1 nq_t_s4 zfm0)))
    have hM : zFx G xq x t dq tp bg bl tpd ∧ zTw g G q t B N tk cp sh fc gn ∧ zSt g G (ns4, 0) s4 bs4 (x0_told_res_sold N A H sold more down) (x0_told_res_fallen N A H sold more down) ∧ zFrK [(q, 0), (q, 1), (q, 2)] G0 G := ⟨hM.1, hM.2.1, hR9 hC1, hM.2.2⟩
    refine z_astore hX dX0_isSteady_7 9 rfl (Nat.le_of_ble_eq_true rfl) rfl (L' := [(0, .ref x), (1, .int sold), (2, .int more), (3, .int down), (4, .ref s4)]) rfl ?_
    refine z_aload hX dX0_isSteady_9 11 rfl 4 rfl ?_
    refine z_ifnonnull hX dX0_isSteady_11 (tgt := 19) (by decide) ?_
    refine z_aload_n hX dX0_isSteady_19 20 rfl (i := 0) rfl 0 rfl ?_
    refine z_getf hX fX0_10 hM.1.o dX0_isSteady_20 23 rfl (x := .ref t) rfl ?_
    refine z_aload hX dX0_isSteady_23 25 rfl 4 rfl ?_
    refine z_iconst hX dX0_isSteady_25 26 rfl zki_1 ?_
    obtain ⟨fs9, ho9⟩ := hM.2.1.o
    refine z_callV hX cwX0_262 (met_X1_behind_2 hG hM.2.1 hM.2.2.1 hN ne_t_s4_0 ne_t_s4_1 ne_t_s4_2 1 (by omega)) ho9 rfl rfl dX0_isSteady_26 29 rfl rfl rfl (Nat.le_of_ble_eq_true rfl) (by decide) ⟨by omega, by omega⟩ (fun r G hP => ?_)
    obtain ⟨ns26, s26, bs26, hzs26, rfl, hP⟩ := hP
    have ne_x_s26 : (xq, 0) ≠ (ns26, 0) := hzs26.neT hM.1.o
    obtain ⟨fs9, ho9⟩ := hM.2.1.o
    have ne_t_s26_0 : (q, 0) ≠ (ns26, 0) := hzs26.neT ho9
    have ne_t_s26_1 : (q, 1) ≠ (ns26, 0) := hzs26.neT ho9
    have ne_t_s26_2 : (q, 2) ≠ (ns26, 0) := hzs26.neT ho9
    have nq_t_s26 : q ≠ ns26 := hzs26 _ _ _ ho9
    have ne_s4_s26 : (ns4, 0) ≠ (ns26, 0) := hzs26.neS hM.2.2.1.o
    have fn_s26 : zFresh G0 ns26 := hzs26.of' hM.2.2.2 (zfm1 nq_t_s26 (zfm1 nq_t_s26 (zfm1 nq_t_s26 zfm0)))
    have hM : zFx G xq x t dq tp bg bl tpd ∧ zTw g G q t B N tk cp sh fc (x1_behind_2_gn N tk cp sh fc (x0_told_res_sold N A H sold more down) (x0_told_res_fallen N A H sold more down) A H K 1) ∧ zSt g G (ns4, 0) s4 bs4 (x0_told_res_sold N A H sold more down) (x0_told_res_fallen N A H sold more down) ∧ zSt g G (ns26, 0) s26 bs26 (x1_behind_2_res_sold N tk cp sh fc (x0_told_res_sold N A H sold more down) (x0_told_res_fallen N A H sold more down) A H K 1) (x1_behind_2_res_fallen N tk cp sh fc (x0_told_res_sold N A H sold more down) (x0_told_res_fallen N A H sold more down) A H K 1) ∧ zFrK [(q, 0), (q, 1), (q, 2)] G0 G := ⟨hM.1.kp (hP.2.2.2.kp (zni1 ne_x_t_00 (zni1 ne_x_t_01 (zni1 ne_x_t_02 zni0)))), hP.1, hP.2.1, hP.2.2.1, hM.2.2.2.stepL hP.2.2.2 (zml1 (Or.inl List.mem_cons_self) (zml1 (Or.inl (List.mem_cons_of_mem _ List.mem_cons_self)) (zml1 (Or.inl (List.mem_cons_of_mem _ (List.mem_cons_of_mem _ List.mem_cons_self))) zml0)))⟩
    show ZW g X 5 16 G 29 [(0, .ref x), (1, .int sold), (2, .int more), (3, .int down), (4, .ref s4)] [.ref s26]
    refine z_aload hX dX0_isSteady_29 31 rfl 4 rfl ?_
    refine z_callVp hX cwX0_265 (w := .int (if x3_isLike (x1_behind_2_res_sold N tk cp sh fc (x0_told_res_sold N A H sold more down) (x0_told_res_fallen N A H sold more down) A H K 1) (x1_behind_2_res_fallen N tk cp sh fc (x0_told_res_sold N A H sold more down) (x0_told_res_fallen N A H sold more down) A H K 1) (x0_told_res_sold N A H sold more down) (x0_told_res_fallen N A H sold more down) then 1 else 0 : Int32)) (met_X3_isLike hG hM.2.2.2.1 hM.2.2.1) hM.2.2.2.1.o rfl rfl dX0_isSteady_31 34 rfl rfl rfl (Nat.le_of_ble_eq_true rfl) (by decide) ⟨by omega, by omega⟩ ?_
    have J3 : ZW g X 5 16 G 42 [(0, .ref x), (1, .int sold), (2, .int more), (3, .int down), (4, .ref s4)] [.int (if x3_isLike (x1_behind_2_res_sold N tk cp sh fc (x0_told_res_sold N A H sold more down) (x0_told_res_fallen N A H sold more down) A H K 1) (x1_behind_2_res_fallen N tk cp sh fc (x0_told_res_sold N A H sold more down) (x0_told_res_fallen N A H sold more down) A H K 1) (x0_told_res_sold N A H sold more down) (x0_told_res_fallen N A H sold more down) then 1 else 0 : Int32)] := by
      have hM : zFx G xq x t dq tp bg bl tpd ∧ zTw g G q t B N tk cp sh fc (x1_behind_2_gn N tk cp sh fc (x0_told_res_sold N A H sold more down) (x0_told_res_fallen N A H sold more down) A H K 1) ∧ zFrK [(q, 0), (q, 1), (q, 2)] G0 G := ⟨hM.1, hM.2.1, hM.2.2.2.2⟩
      exact z_iret hX hQ (by omega) (by omega) rfl dX0_isSteady_42 ⟨(by first | (simp only [if_pos hC1] <;> rfl; done) | grind), (by first | (simpa only [if_pos hC1] using hM) | ((try simp only [if_pos hC1]); exact hM))⟩
    refine z_if_eqP hX (x3_isLike (x1_behind_2_res_sold N tk cp sh fc (x0_told_res_sold N A H sold more down) (x0_told_res_fallen N A H sold more down) A H K 1) (x1_behind_2_res_fallen N tk cp sh fc (x0_told_res_sold N A H sold more down) (x0_told_res_fallen N A H sold more down) A H K 1) (x0_told_res_sold N A H sold more down) (x0_told_res_fallen N A H sold more down)) dX0_isSteady_34 37 rfl (tgt := 41) (by decide) (fun c2 => ?_) (fun c2 => ?_)
    ·
      refine z_iconst hX dX0_isSteady_41 42 rfl zki_0 ?_
      exact z_eqL rfl (by first | (simp only [if_pos hC1, if_neg c2] <;> rfl; done) | grind) J3
    ·
      refine z_iconst hX dX0_isSteady_37 38 rfl zki_1 ?_
      refine z_goto hX dX0_isSteady_38 (tgt := 42) (by decide) ?_
      exact z_eqL rfl (by first | (simp only [if_pos hC1, if_pos c2] <;> rfl; done) | grind) J3
  ·
    refine z_eqL (L' := [(0, .ref x), (1, .int sold), (2, .int more), (3, .int down)]) (st' := [.null]) rfl (by rw [if_neg hC1]) ?_
    refine z_astoreN hX dX0_isSteady_7 9 rfl (Nat.le_of_ble_eq_true rfl) rfl (L' := [(0, .ref x), (1, .int sold), (2, .int more), (3, .int down), (4, .null)]) rfl ?_
    refine z_aloadN hX dX0_isSteady_9 11 rfl 4 rfl ?_
    refine z_ifnonnullN hX dX0_isSteady_11 14 rfl ?_
    refine z_bipush hX dX0_isSteady_14 16 rfl zkb_m2 ?_
    refine z_goto hX dX0_isSteady_16 (tgt := 42) (by decide) ?_
    exact z_iret hX hQ (by omega) (by omega) rfl dX0_isSteady_42 ⟨(by first | (simp only [if_neg hC1] <;> rfl; done) | grind), (by first | (simpa only [if_neg hC1] using hM) | ((try simp only [if_neg hC1]); exact hM))⟩
