set_option maxRecDepth 100000
theorem vp_fitI {c : ClassId} {n : Nat} {f : Nat → Int32} {i : Nat} {v : Value} (h : (vp_cell c (n, .inl f)).slots[i]? = some v) : fits .int v = true := by
  have h2 : (Array.ofFn (n := n) fun j => Value.int (f j.val))[i]? = some v := h
  rw [Array.getElem?_ofFn] at h2
  split at h2
  · cases h2; rfl
  · cases h2
theorem zFresh.of' {ks : List (Nat × Nat)} {G0 G1 : zHG} {n : Nat} (hn : zFresh G1 n) (h : zFrK ks G0 G1) (hk : ∀ κ ∈ ks, κ.1 ≠ n) : zFresh G0 n := zFresh.of h hn hk
theorem zfm0 {n : Nat} : ∀ κ ∈ ([] : List (Nat × Nat)), κ.1 ≠ n := fun _ h => by cases h
theorem zfm1 {n : Nat} {κ : Nat × Nat} {l : List (Nat × Nat)} (h : κ.1 ≠ n) (t : ∀ κ ∈ l, κ.1 ≠ n) : ∀ κ' ∈ κ :: l, κ'.1 ≠ n := fun κ' hk => by
  rcases List.mem_cons.mp hk with e | e
  · rw [e]; exact h
  · exact t κ' e
theorem zFresh.neT {G : zHG} {n a q r i j : Nat} {e : va_E} (hn : zFresh G n) (h : G a = some ((q, r), e)) : (q, j) ≠ (n, i) := fun z => hn _ _ _ h (Prod.mk.inj z).1
theorem zFresh.neS {G : zHG} {n a r i : Nat} {κ : Nat × Nat} {e : va_E} (hn : zFresh G n) (h : G a = some ((κ.1, r), e)) : κ ≠ (n, i) := fun z => hn _ _ _ h (congrArg Prod.fst z)
theorem zFresh.neA {G : zHG} {n a m i : Nat} {la : Nat × Nat} {c : ClassId} {f : Nat → Int32} (hn : zFresh G n) (h : zAr G a la c m f) : zKy la ≠ (n, i) := fun z => by
  obtain ⟨f', h1, _⟩ := h
  exact hn _ _ _ h1 (congrArg Prod.fst z)
theorem zAr.own {G : zHG} {n a m : Nat} {la : Nat × Nat} {c : ClassId} {f : Nat → Int32} (h : zAr G a la c m f) (hn : zFresh G n) : (zKy la).1 ≠ n := by
  obtain ⟨f', h1, _⟩ := h
  show la.1 ≠ n
  exact hn a la _ h1
theorem nwX1_50 : zNw RX1 50 3 2 [.null, .int 0] := by
  refine ⟨RX3, TX3, tyX3, rfl, in_X3, tyX3_ok, q173, q174, q101, fun j hj => ?_⟩
  rcases j with _ | _ | j
  · rfl
  · rfl
  · omega
theorem nwX3_10 : zNw RX3 10 3 2 [.null, .int 0] := by
  refine ⟨RX3, TX3, tyX3, rfl, in_X3, tyX3_ok, q798, q174, q101, fun j hj => ?_⟩
  rcases j with _ | _ | j
  · rfl
  · rfl
  · omega
theorem nwX0_146 : zNw RX0 146 3 2 [.null, .int 0] := by
  refine ⟨RX3, TX3, tyX3, rfl, in_X3, tyX3_ok, q996, q174, q101, fun j hj => ?_⟩
  rcases j with _ | _ | j
  · rfl
  · rfl
  · omega
theorem met_X3_init {g : Zg} (hG : zG g) {G0 : zHG} {κ : Nat × Nat} {a : Nat} (ha : G0 a = some ((κ.1, 512 * κ.2 + 0), zO 3 [.null, .int 0])) (h9 : ¬ κ.2 = 9) : ZM g yX3_init cX3_init 1 none 1 1 4 [.ref a] G0 (fun r G' => r = none ∧ ∃ b, zSt g G' κ a b (fun _ => 0) 0 ∧ zFrK [κ] G0 G') := by
  refine ZM_mk hG (by decide) (Nat.le_of_ble_eq_true rfl) ?_
  intro X hX hname hQ
  show ZW g X 0 0 G0 0 [(0, .ref a)] []
  refine z_aload_n hX dX3_init_0 1 rfl (i := 0) rfl 0 rfl ?_
  refine z_objInit hX q178 q137 q138 dX3_init_1 4 rfl (by decide) (Nat.le_of_ble_eq_true rfl) ?_
  refine z_aload_n hX dX3_init_4 5 rfl (i := 0) rfl 0 rfl ?_
  refine z_iconst hX dX3_init_5 6 rfl zki_4 ?_
  refine z_newa hX (atype := .int) (fun _ => (κ.1, 512 * κ.2 + 1)) 0 rfl rfl q168 (N := 4) (a0 := (4, .inl (fun _ => 0))) (fun _ => rfl) dX3_init_6 8 rfl (by decide) (by decide) (by decide) (by decide) (by decide) (fun b hb _ => ?_)
  have hne : b ≠ a := fun z => by rw [z, ha] at hb; cases hb
  have hg : zup G0 b ((κ.1, 512 * κ.2 + 1), zI (zca g 0) 4 (fun _ => 0)) a = some ((κ.1, 512 * κ.2 + 0), zO 3 [.null, .int 0]) := by rw [zup_ne _ _ (Ne.symm hne)]; exact ha
  refine z_putf hX fX3_9 ft3_0 hg dX3_init_8 11 rfl rfl rfl (Nat.le_of_ble_eq_true rfl) rfl ?_
  refine z_vret hX hQ (by decide) (by decide) rfl dX3_init_11 ⟨rfl, b, ⟨zup_self _ _ _, fun _ => 0, ?_, fun _ _ => rfl⟩, (zup_new hb).tr (zup_fr hg (zkyS κ 0 (by decide)) h9)⟩
  rw [zup_ne _ _ hne]
  exact zup_self _ _ _
theorem met_X3_like {g : Zg} (hG : zG g) {G0 : zHG} {ks : Nat × Nat} {s bs : Nat} {s_sold : Nat → Int32} {s_fallen : Int32} {ko : Nat × Nat} {o bo : Nat} {o_sold : Nat → Int32} {o_fallen : Int32} (hs : zSt g G0 ks s bs s_sold s_fallen) (ho : zSt g G0 ko o bo o_sold o_fallen) (h9_s : ¬ ks.2 = 9) (ne_s_o : ks ≠ ko) : ZM g yX3_like cX3_like 2 none 1 0 0 [.ref s, .ref o] G0 (fun r G' => r = none ∧ (zSt g G' ks s bs o_sold o_fallen ∧ zSt g G' ko o bo o_sold o_fallen ∧ zFrK [ks] G0 G')) := by
  refine ZM_mk hG (by decide) (Nat.le_of_ble_eq_true rfl) ?_
  intro X hX hname hQ
  show ZW g X 0 0 G0 0 [(0, .ref s), (1, .ref o)] []
  obtain ⟨f0, h0, h1⟩ := ho.2
  obtain ⟨f2, h2, h3⟩ := hs.2
  refine z_aload_n hX dX3_like_0 1 rfl (i := 1) rfl 1 rfl ?_
  refine z_getf hX fX3_9 ho.o dX3_like_1 4 rfl (x := .ref bo) rfl ?_
  refine z_iconst hX dX3_like_4 5 rfl zki_0 ?_
  refine z_aload_n hX dX3_like_5 6 rfl (i := 0) rfl 0 rfl ?_
  refine z_getf hX fX3_9 hs.o dX3_like_6 9 rfl (x := .ref bs) rfl ?_
  refine z_iconst hX dX3_like_9 10 rfl zki_0 ?_
  refine z_iconst hX dX3_like_10 11 rfl zki_4 ?_
  refine z_copyi hX q620 q412 q411 q118 (t0 := 0) rfl rfl h0 h2 (by decide) (by decide) (by decide) (by decide) (by decide) (fun i _ => rfl) (f' := va_cpy f0 f2 0 0 4) rfl dX3_like_11 14 rfl (Nat.le_of_ble_eq_true rfl) (by decide) ?_
  have hf := zup_fr (e := zI (zca g 0) 4 (va_cpy f0 f2 0 0 4)) h2 (zkyS ks 1 (by decide)) h9_s
  have hw : zSt g _ ks s bs o_sold s_fallen := zSt_putS (f' := va_cpy f0 f2 0 0 4) hs (fun j hj => by
    unfold va_cpy
    rw [if_pos ⟨Nat.zero_le _, by omega⟩, Nat.zero_add, Nat.sub_zero]
    exact h1 j hj)
  generalize zup G0 bs ((ks.1, 512 * ks.2 + 1), zI (zca g 0) 4 (va_cpy f0 f2 0 0 4)) = G at hf hw ⊢
  have ho2 := ho.kp (hf.kp (zni1 (Ne.symm ne_s_o) zni0))
  refine z_aload_n hX dX3_like_14 15 rfl (i := 0) rfl 0 rfl ?_
  refine z_aload_n hX dX3_like_15 16 rfl (i := 1) rfl 1 rfl ?_
  refine z_getf hX fX3_21 ho2.o dX3_like_16 19 rfl (x := .int o_fallen) rfl ?_
  refine s_put_fallen hX hw h9_s fX3_21 dX3_like_19 22 rfl (fun G' hw2 hf2 => ?_)
  exact z_vret hX hQ (Nat.zero_le _) (Nat.zero_le _) rfl dX3_like_22 ⟨rfl, hw2, ho2.kp (hf2.kp (zni1 (Ne.symm ne_s_o) zni0)), hf.tr hf2⟩
theorem met_X3_copy {g : Zg} (hG : zG g) {G0 : zHG} {ks : Nat × Nat} {s bs : Nat} {s_sold : Nat → Int32} {s_fallen : Int32} (hs : zSt g G0 ks s bs s_sold s_fallen) : ZM g yX3_copy cX3_copy 2 (some (.object "FireSale$State")) 2 3 10 [.ref s] G0 (fun r G' => ∃ nR sR bR : Nat, zFresh G0 nR ∧ r = some (.ref sR) ∧ (zSt g G' ks s bs s_sold s_fallen ∧ zSt g G' (nR, 0) sR bR s_sold s_fallen ∧ zFrK [] G0 G')) := by
  refine ZM_mk hG (by decide) (Nat.le_of_ble_eq_true rfl) ?_
  intro X hX hname hQ
  show ZW g X 0 0 G0 0 [(0, .ref s)] []
  refine z_fresh (fun n hn => ?_)
  have hne : ks ≠ (n, 0) := hn.neS hs.o
  refine z_new hX (fun _ => (n, 0)) nwX3_10 dX3_copy_0 3 rfl (by omega) (by omega) (fun a ha _ => ?_)
  refine z_dup hX dX3_copy_3 4 rfl rfl ?_
  have hf : zFrK [] G0 (zup G0 a ((n, 0), zO 3 [.null, .int 0])) := zup_new ha
  have hw := zup_self G0 a ((n, 0), zO 3 [.null, .int 0])
  generalize zup G0 a ((n, 0), zO 3 [.null, .int 0]) = G at hf hw ⊢
  have hs := hs.kp (hf.kp zni0)
  refine z_callI hX cwX3_31 (met_X3_init hG (κ := (n, 0)) hw (show ¬ 0 = 9 from by decide)) dX3_copy_4 7 rfl rfl rfl (Nat.le_of_ble_eq_true rfl) (by decide) ⟨by omega, by omega⟩ (fun r G1 hP => ?_)
  obtain ⟨rfl, b, hw, hf1⟩ := hP
  have hf := hf.stepF hf1 hn
  have hs := hs.kp (hf1.kp (zni1 hne zni0))
  show ZW g X 2 6 G1 7 [(0, .ref s)] [.ref a]
  refine z_astore_n hX dX3_copy_7 8 rfl (i := 1) rfl (Nat.le_of_ble_eq_true rfl) rfl (L' := [(0, .ref s), (1, .ref a)]) rfl ?_
  refine z_aload_n hX dX3_copy_8 9 rfl (i := 1) rfl 1 rfl ?_
  refine z_aload_n hX dX3_copy_9 10 rfl (i := 0) rfl 0 rfl ?_
  refine z_getf hX fX3_9 hs.o dX3_copy_10 13 rfl (x := .ref bs) rfl ?_
  obtain ⟨f0, h0, h1⟩ := hs.2
  refine z_clone hX (fun _ => (n, 1)) (t0 := 0) (ad := "[I") q800 q347 q342 q343 q348 q349 rfl rfl h0 (fun i v hv => vp_fitI hv) dX3_copy_13 16 rfl (Nat.le_of_ble_eq_true rfl) (by decide) (by decide) (by show 6 + 4 ≤ 10; decide) (fun b2 hb2 _ => ?_)
  have hf2 : zFrK [] G1 (zup G1 b2 ((n, 1), zI (zca g 0) 4 f0)) := zup_new hb2
  have hb := zup_self G1 b2 ((n, 1), zI (zca g 0) 4 f0)
  generalize zup G1 b2 ((n, 1), zI (zca g 0) 4 f0) = G2 at hf2 hb ⊢
  have hs := hs.kp (hf2.kp zni0)
  have hw := hw.kp (hf2.kp zni0)
  have hf := hf.stepL hf2 zml0
  show ZW g X 3 10 G2 16 [(0, .ref s), (1, .ref a)] [.ref b2, .ref a]
  refine z_castA hX (t0 := 0) (nm := "[I") q801 rfl rfl hb dX3_copy_16 19 rfl ?_
  refine z_putf hX fX3_9 ft3_0 hw.o dX3_copy_19 22 rfl rfl rfl (Nat.le_of_ble_eq_true rfl) rfl ?_
  have hf3 : zFrK [(n, 0)] G2 (zup G2 a ((n, 512 * 0 + 0), zO 3 [.ref b2, .int 0])) := zup_fr (e := zO 3 [.ref b2, .int 0]) hw.o (zkyS (n, 0) 0 (by decide)) (show ¬ 0 = 9 from by decide)
  have hw2 : zSt g (zup G2 a ((n, 512 * 0 + 0), zO 3 [.ref b2, .int 0])) (n, 0) a b2 s_sold 0 := ⟨zup_self _ _ _, f0, zup_keep hw.o hb (zlb (show 512 * 0 + 1 ≠ 512 * 0 + 0 from by decide)), h1⟩
  show ZW g X 3 10 (zup G2 a ((n, 512 * 0 + 0), zO 3 [.ref b2, .int 0])) 22 [(0, .ref s), (1, .ref a)] []
  generalize zup G2 a ((n, 512 * 0 + 0), zO 3 [.ref b2, .int 0]) = G3 at hf3 hw2 ⊢
  have hs := hs.kp (hf3.kp (zni1 hne zni0))
  have hf := hf.stepF hf3 hn
  refine z_aload_n hX dX3_copy_22 23 rfl (i := 1) rfl 1 rfl ?_
  refine z_aload_n hX dX3_copy_23 24 rfl (i := 0) rfl 0 rfl ?_
  refine z_getf hX fX3_21 hs.o dX3_copy_24 27 rfl (x := .int s_fallen) rfl ?_
  refine s_put_fallen hX hw2 (show ¬ 0 = 9 from by decide) fX3_21 dX3_copy_27 30 rfl (fun G4 hw3 hf4 => ?_)
  refine z_aload_n hX dX3_copy_30 31 rfl (i := 1) rfl 1 rfl ?_
  exact z_aret hX hQ (by decide) (by decide) rfl (Or.inl ⟨_, rfl⟩) dX3_copy_31 ⟨n, a, b2, hn, rfl, hs.kp (hf4.kp (zni1 hne zni0)), hw3, hf.stepF hf4 hn⟩
