set_option maxRecDepth 100000
def x1_mood_l20 (N : Nat → Int32) (tk : Nat → Int32) (cp : Nat → Int32) (sh : Nat → Int32) (fc : Int32) (A : Nat) (H : Nat) (K : Nat → Nat) (ini : UInt64 × (Nat → Int32) × Int32) (k : Nat) : UInt64 × (Nat → Int32) × Int32 := zfold k (fun j1 cj1 => (FP.dadd (FP.dmul cj1.1 4602678819172646912) (FP.dmul (FP.f2d (x1_index N tk sh (fs_ns N tk cp sh fc A H K cj1.2.1 cj1.2.2) A K)) 4602678819172646912), fs_ns N tk cp sh fc A H K cj1.2.1 cj1.2.2, fs_nf N tk cp sh fc A H K cj1.2.1 cj1.2.2)) ini
theorem x1_mood_l20_0 (N : Nat → Int32) (tk : Nat → Int32) (cp : Nat → Int32) (sh : Nat → Int32) (fc : Int32) (A : Nat) (H : Nat) (K : Nat → Nat) (ini : UInt64 × (Nat → Int32) × Int32) : x1_mood_l20 N tk cp sh fc A H K ini 0 = ini := (zfold_0 _ _).trans (Eq.refl _)
noncomputable def x1_mood (N : Nat → Int32) (tk : Nat → Int32) (cp : Nat → Int32) (sh : Nat → Int32) (fc : Int32) (A : Nat) (H : Nat) (K : Nat → Nat) : UInt64 := (x1_mood_l20 N tk cp sh fc A H K (FP.dconst1, x1_calm_res_sold, x1_calm_res_fallen fc) (fs_gone N tk cp sh fc A H K (x1_calm_res_sold, (x1_calm_res_fallen fc)) zForever)).1
noncomputable def x1_mood_gn (N : Nat → Int32) (tk : Nat → Int32) (cp : Nat → Int32) (sh : Nat → Int32) (fc : Int32) (A : Nat) (H : Nat) (K : Nat → Nat) : Int32 := x1_rounds_gn N tk cp sh fc x1_calm_res_sold (x1_calm_res_fallen fc) A H K
set_option maxHeartbeats 4000000 in
theorem met_X1_mood {g : Zg} (hG : zG g) {G0 : zHG} {q t : Nat} {B : Nat → Nat → Nat} {N tk cp sh : Nat → Int32} {fc gn : Int32} (ht : zTw g G0 q t B N tk cp sh fc gn) {A H : Nat} {K : Nat → Nat} (hN : zWf N A H K) (af0 : ∀ j1 : Nat, j1 < fs_gone N tk cp sh fc A H K (x1_calm_res_sold, (x1_calm_res_fallen fc)) zForever → vf_n64 (FP.dmul ((x1_mood_l20 N tk cp sh fc A H K (FP.dconst1, x1_calm_res_sold, x1_calm_res_fallen fc) j1).1) 4602678819172646912)) (af1 : ∀ j1 : Nat, j1 < fs_gone N tk cp sh fc A H K (x1_calm_res_sold, (x1_calm_res_fallen fc)) zForever → vf_n32 (FP.fdiv (x1_index_l16 N tk sh (fs_ns N tk cp sh fc A H K ((x1_mood_l20 N tk cp sh fc A H K (FP.dconst1, x1_calm_res_sold, x1_calm_res_fallen fc) j1).2.1) ((x1_mood_l20 N tk cp sh fc A H K (FP.dconst1, x1_calm_res_sold, x1_calm_res_fallen fc) j1).2.2)) K FP.fconst0 A) (FP.i2f (x1_heldAll N A)))) (af2 : ∀ j1 : Nat, j1 < fs_gone N tk cp sh fc A H K (x1_calm_res_sold, (x1_calm_res_fallen fc)) zForever → ∀ qj2 : Nat, qj2 < A → ¬ ((x1_calmPrice N sh K qj2) = 0) → vf_n32 (FP.fdiv (FP.i2f (x1_price N tk sh (fs_ns N tk cp sh fc A H K ((x1_mood_l20 N tk cp sh fc A H K (FP.dconst1, x1_calm_res_sold, x1_calm_res_fallen fc) j1).2.1) ((x1_mood_l20 N tk cp sh fc A H K (FP.dconst1, x1_calm_res_sold, x1_calm_res_fallen fc) j1).2.2)) K qj2)) (FP.i2f (x1_calmPrice N sh K qj2)))) (af3 : ∀ j1 : Nat, j1 < fs_gone N tk cp sh fc A H K (x1_calm_res_sold, (x1_calm_res_fallen fc)) zForever → ∀ qj2 : Nat, qj2 < A → vf_n32 (FP.fmul (x1_ratio N tk sh (fs_ns N tk cp sh fc A H K ((x1_mood_l20 N tk cp sh fc A H K (FP.dconst1, x1_calm_res_sold, x1_calm_res_fallen fc) j1).2.1) ((x1_mood_l20 N tk cp sh fc A H K (FP.dconst1, x1_calm_res_sold, x1_calm_res_fallen fc) j1).2.2)) K qj2) (FP.i2f (x1_held N qj2)))) (af4 : ∀ j1 : Nat, j1 < fs_gone N tk cp sh fc A H K (x1_calm_res_sold, (x1_calm_res_fallen fc)) zForever → ∀ qj2 : Nat, qj2 < A → vf_n32 (FP.fadd (x1_index_l16 N tk sh (fs_ns N tk cp sh fc A H K ((x1_mood_l20 N tk cp sh fc A H K (FP.dconst1, x1_calm_res_sold, x1_calm_res_fallen fc) j1).2.1) ((x1_mood_l20 N tk cp sh fc A H K (FP.dconst1, x1_calm_res_sold, x1_calm_res_fallen fc) j1).2.2)) K FP.fconst0 qj2) (FP.fmul (x1_ratio N tk sh (fs_ns N tk cp sh fc A H K ((x1_mood_l20 N tk cp sh fc A H K (FP.dconst1, x1_calm_res_sold, x1_calm_res_fallen fc) j1).2.1) ((x1_mood_l20 N tk cp sh fc A H K (FP.dconst1, x1_calm_res_sold, x1_calm_res_fallen fc) j1).2.2)) K qj2) (FP.i2f (x1_held N qj2))))) (af5 : ∀ j1 : Nat, j1 < fs_gone N tk cp sh fc A H K (x1_calm_res_sold, (x1_calm_res_fallen fc)) zForever → vf_n64 (FP.f2d (x1_index N tk sh (fs_ns N tk cp sh fc A H K ((x1_mood_l20 N tk cp sh fc A H K (FP.dconst1, x1_calm_res_sold, x1_calm_res_fallen fc) j1).2.1) ((x1_mood_l20 N tk cp sh fc A H K (FP.dconst1, x1_calm_res_sold, x1_calm_res_fallen fc) j1).2.2)) A K))) (af6 : ∀ j1 : Nat, j1 < fs_gone N tk cp sh fc A H K (x1_calm_res_sold, (x1_calm_res_fallen fc)) zForever → vf_n64 (FP.dmul (FP.f2d (x1_index N tk sh (fs_ns N tk cp sh fc A H K ((x1_mood_l20 N tk cp sh fc A H K (FP.dconst1, x1_calm_res_sold, x1_calm_res_fallen fc) j1).2.1) ((x1_mood_l20 N tk cp sh fc A H K (FP.dconst1, x1_calm_res_sold, x1_calm_res_fallen fc) j1).2.2)) A K)) 4602678819172646912)) (af7 : ∀ j1 : Nat, j1 < fs_gone N tk cp sh fc A H K (x1_calm_res_sold, (x1_calm_res_fallen fc)) zForever → vf_n64 (FP.dadd (FP.dmul ((x1_mood_l20 N tk cp sh fc A H K (FP.dconst1, x1_calm_res_sold, x1_calm_res_fallen fc) j1).1) 4602678819172646912) (FP.dmul (FP.f2d (x1_index N tk sh (fs_ns N tk cp sh fc A H K ((x1_mood_l20 N tk cp sh fc A H K (FP.dconst1, x1_calm_res_sold, x1_calm_res_fallen fc) j1).2.1) ((x1_mood_l20 N tk cp sh fc A H K (FP.dconst1, x1_calm_res_sold, x1_calm_res_fallen fc) j1).2.2)) A K)) 4602678819172646912))) : ZM g yX1_mood cX1_mood 6 (some FieldType.double) 9 7 22 [.ref t] G0 (fun r G' => r = some (.double (x1_mood N tk cp sh fc A H K)) ∧ (zTw g G' q t B N tk cp sh fc (x1_mood_gn N tk cp sh fc A H K) ∧ zFrK [(q, 0), (q, 1), (q, 2)] G0 G')) := by
  unfold x1_mood x1_mood_gn
  have hN2 := hN.2.1
  have hN4 := hN.2.2.2.1
  refine ZM_mk hG (by decide) (Nat.le_of_ble_eq_true rfl) ?_
  intro X hX hname hQ
  obtain ⟨G, hGe⟩ : ∃ z, z = G0 := ⟨_, rfl⟩
  have hM : zTw g G q t B N tk cp sh fc gn ∧ zFrK [(q, 0), (q, 1), (q, 2)] G0 G := by rw [hGe]; exact ⟨ht, zFrK.rf⟩
  show ZW g X 0 0 G0 0 [(0, .ref t)] []
  rw [← hGe]
  refine z_dconst1 hX dX1_mood_0 1 rfl ?_
  refine z_dstore_n hX dX1_mood_1 2 rfl (i := 1) rfl (Nat.le_of_ble_eq_true rfl) rfl (L' := [(0, .ref t), (1, .double FP.dconst1)]) rfl ?_
  refine z_aload_n hX dX1_mood_2 3 rfl (i := 0) rfl 0 rfl ?_
  refine z_aload_n hX dX1_mood_3 4 rfl (i := 0) rfl 0 rfl ?_
  obtain ⟨opr, os1, os2, of1, of2, ob1, ob2, hT9, h19, h29⟩ := id hM.1
  refine z_callV hX cwX1_187 (met_X1_calm hG hT9) hT9.o rfl rfl dX1_mood_4 7 rfl rfl rfl (Nat.le_of_ble_eq_true rfl) (by decide) ⟨by omega, by omega⟩ (fun r G hP => ?_)
  obtain ⟨ns4, s4, bs4, hzs4, rfl, hP⟩ := hP
  obtain ⟨fs9, ho9⟩ := hM.1.o
  have ne_t_s4_0 : (q, 0) ≠ (ns4, 0) := hzs4.neT ho9
  have ne_t_s4_1 : (q, 1) ≠ (ns4, 0) := hzs4.neT ho9
  have ne_t_s4_2 : (q, 2) ≠ (ns4, 0) := hzs4.neT ho9
  have nq_t_s4 : q ≠ ns4 := hzs4 _ _ _ ho9
  have fn_s4 : zFresh G0 ns4 := hzs4.of' hM.2 (zfm1 nq_t_s4 (zfm1 nq_t_s4 (zfm1 nq_t_s4 zfm0)))
  have hM : zTw g G q t B N tk cp sh fc gn ∧ zSt g G (ns4, 0) s4 bs4 x1_calm_res_sold (x1_calm_res_fallen fc) ∧ zFrK [(q, 0), (q, 1), (q, 2)] G0 G := ⟨⟨_, os1, os2, of1, of2, ob1, ob2, hP.1, h19.kp (hP.2.2.kp zni0), h29.kp (hP.2.2.kp zni0)⟩, hP.2.1, hM.2.stepL hP.2.2 zml0⟩
  show ZW g X 2 6 G 7 [(0, .ref t), (1, .double FP.dconst1)] [.ref s4, .ref t]
  obtain ⟨fs9, ho9⟩ := hM.1.o
  refine z_callV hX cwX1_232 (met_X1_rounds hG hM.1 hM.2.1 hN ne_t_s4_0 ne_t_s4_1 ne_t_s4_2) ho9 rfl rfl dX1_mood_7 10 rfl rfl rfl (Nat.le_of_ble_eq_true rfl) (by decide) ⟨by omega, by omega⟩ (fun r G hP => ?_)
  obtain ⟨rfl, hP⟩ := hP
  have hM : zTw g G q t B N tk cp sh fc (x1_rounds_gn N tk cp sh fc x1_calm_res_sold (x1_calm_res_fallen fc) A H K) ∧ zSt g G (ns4, 0) s4 bs4 x1_calm_res_sold (x1_calm_res_fallen fc) ∧ zFrK [(q, 0), (q, 1), (q, 2)] G0 G := ⟨hP.1, hP.2.1, hM.2.2.stepL hP.2.2 (zml1 (Or.inl List.mem_cons_self) (zml1 (Or.inl (List.mem_cons_of_mem _ List.mem_cons_self)) (zml1 (Or.inl (List.mem_cons_of_mem _ (List.mem_cons_of_mem _ List.mem_cons_self))) zml0)))⟩
  show ZW g X 5 16 G 10 [(0, .ref t), (1, .double FP.dconst1)] [.int (nI (fs_gone N tk cp sh fc A H K (x1_calm_res_sold, (x1_calm_res_fallen fc)) zForever))]
  have hgo7 : fs_gone N tk cp sh fc A H K (x1_calm_res_sold, (x1_calm_res_fallen fc)) zForever < 1000001 := Nat.lt_of_le_of_lt fs_gone_le zFor_lt
  refine z_istore_n hX dX1_mood_10 11 rfl (i := 3) rfl (Nat.le_of_ble_eq_true rfl) rfl (L' := [(0, .ref t), (1, .double FP.dconst1), (3, .int (nI (fs_gone N tk cp sh fc A H K (x1_calm_res_sold, (x1_calm_res_fallen fc)) zForever)))]) rfl ?_
  refine z_aload_n hX dX1_mood_11 12 rfl (i := 0) rfl 0 rfl ?_
  obtain ⟨opr, os1, os2, of1, of2, ob1, ob2, hT9, h19, h29⟩ := id hM.1
  refine z_callV hX cwX1_187 (met_X1_calm hG hT9) hT9.o rfl rfl dX1_mood_12 15 rfl rfl rfl (Nat.le_of_ble_eq_true rfl) (by decide) ⟨by omega, by omega⟩ (fun r G hP => ?_)
  obtain ⟨ns12, s12, bs12, hzs12, rfl, hP⟩ := hP
  obtain ⟨fs9, ho9⟩ := hM.1.o
  have ne_t_s12_0 : (q, 0) ≠ (ns12, 0) := hzs12.neT ho9
  have ne_t_s12_1 : (q, 1) ≠ (ns12, 0) := hzs12.neT ho9
  have ne_t_s12_2 : (q, 2) ≠ (ns12, 0) := hzs12.neT ho9
  have nq_t_s12 : q ≠ ns12 := hzs12 _ _ _ ho9
  have ne_s4_s12 : (ns4, 0) ≠ (ns12, 0) := hzs12.neS hM.2.1.o
  have fn_s12 : zFresh G0 ns12 := hzs12.of' hM.2.2 (zfm1 nq_t_s12 (zfm1 nq_t_s12 (zfm1 nq_t_s12 zfm0)))
  have hM : zTw g G q t B N tk cp sh fc (x1_rounds_gn N tk cp sh fc x1_calm_res_sold (x1_calm_res_fallen fc) A H K) ∧ zSt g G (ns4, 0) s4 bs4 x1_calm_res_sold (x1_calm_res_fallen fc) ∧ zSt g G (ns12, 0) s12 bs12 x1_calm_res_sold (x1_calm_res_fallen fc) ∧ zFrK [(q, 0), (q, 1), (q, 2)] G0 G := ⟨⟨_, os1, os2, of1, of2, ob1, ob2, hP.1, h19.kp (hP.2.2.kp zni0), h29.kp (hP.2.2.kp zni0)⟩, hM.2.1.kp (hP.2.2.kp zni0), hP.2.1, hM.2.2.stepL hP.2.2 zml0⟩
  show ZW g X 7 22 G 15 [(0, .ref t), (1, .double FP.dconst1), (3, .int (nI (fs_gone N tk cp sh fc A H K (x1_calm_res_sold, (x1_calm_res_fallen fc)) zForever)))] [.ref s12]
  refine z_astore hX dX1_mood_15 17 rfl (Nat.le_of_ble_eq_true rfl) rfl (L' := [(0, .ref t), (1, .double FP.dconst1), (3, .int (nI (fs_gone N tk cp sh fc A H K (x1_calm_res_sold, (x1_calm_res_fallen fc)) zForever))), (4, .ref s12)]) rfl ?_
  refine z_iconst hX dX1_mood_17 18 rfl zki_0 ?_
  refine z_istore hX dX1_mood_18 20 rfl (Nat.le_of_ble_eq_true rfl) rfl (L' := [(0, .ref t), (1, .double FP.dconst1), (3, .int (nI (fs_gone N tk cp sh fc A H K (x1_calm_res_sold, (x1_calm_res_fallen fc)) zForever))), (4, .ref s12), (5, .int 0)]) rfl ?_
  have E2 : ∀ G : zHG, zTw g G q t B N tk cp sh fc (x1_rounds_gn N tk cp sh fc x1_calm_res_sold (x1_calm_res_fallen fc) A H K) ∧ zSt g G (ns4, 0) s4 bs4 x1_calm_res_sold (x1_calm_res_fallen fc) ∧ zSt g G (ns12, 0) s12 bs12 ((x1_mood_l20 N tk cp sh fc A H K (FP.dconst1, x1_calm_res_sold, x1_calm_res_fallen fc) (fs_gone N tk cp sh fc A H K (x1_calm_res_sold, (x1_calm_res_fallen fc)) zForever)).2.1) ((x1_mood_l20 N tk cp sh fc A H K (FP.dconst1, x1_calm_res_sold, x1_calm_res_fallen fc) (fs_gone N tk cp sh fc A H K (x1_calm_res_sold, (x1_calm_res_fallen fc)) zForever)).2.2) ∧ zFrK [(q, 0), (q, 1), (q, 2)] G0 G → ZW g X 7 22 G 69 [(0, .ref t), (1, .double ((x1_mood_l20 N tk cp sh fc A H K (FP.dconst1, x1_calm_res_sold, x1_calm_res_fallen fc) (fs_gone N tk cp sh fc A H K (x1_calm_res_sold, (x1_calm_res_fallen fc)) zForever)).1)), (3, .int (nI (fs_gone N tk cp sh fc A H K (x1_calm_res_sold, (x1_calm_res_fallen fc)) zForever))), (4, .ref s12), (5, .int (nI (fs_gone N tk cp sh fc A H K (x1_calm_res_sold, (x1_calm_res_fallen fc)) zForever)))] [] := by
    intro G hM
    refine z_dload_n hX dX1_mood_69 70 rfl (i := 1) rfl 1 rfl ?_
    have hM : zTw g G q t B N tk cp sh fc (x1_rounds_gn N tk cp sh fc x1_calm_res_sold (x1_calm_res_fallen fc) A H K) ∧ zFrK [(q, 0), (q, 1), (q, 2)] G0 G := ⟨hM.1, hM.2.2.2⟩
    exact z_dret hX hQ (by omega) (by omega) rfl dX1_mood_70 ⟨rfl, hM⟩
  have Lp3 : ∀ k j1 : Nat, j1 + k = fs_gone N tk cp sh fc A H K (x1_calm_res_sold, (x1_calm_res_fallen fc)) zForever → ∀ G : zHG, zTw g G q t B N tk cp sh fc (x1_rounds_gn N tk cp sh fc x1_calm_res_sold (x1_calm_res_fallen fc) A H K) ∧ zSt g G (ns4, 0) s4 bs4 x1_calm_res_sold (x1_calm_res_fallen fc) ∧ zSt g G (ns12, 0) s12 bs12 ((x1_mood_l20 N tk cp sh fc A H K (FP.dconst1, x1_calm_res_sold, x1_calm_res_fallen fc) j1).2.1) ((x1_mood_l20 N tk cp sh fc A H K (FP.dconst1, x1_calm_res_sold, x1_calm_res_fallen fc) j1).2.2) ∧ zFrK [(q, 0), (q, 1), (q, 2)] G0 G → ZW g X 7 22 G 20 [(0, .ref t), (1, .double ((x1_mood_l20 N tk cp sh fc A H K (FP.dconst1, x1_calm_res_sold, x1_calm_res_fallen fc) j1).1)), (3, .int (nI (fs_gone N tk cp sh fc A H K (x1_calm_res_sold, (x1_calm_res_fallen fc)) zForever))), (4, .ref s12), (5, .int (nI j1))] [] := by
    intro k
    induction k with
    | zero =>
      intro j1 hj1 G hM
      rw [show j1 = fs_gone N tk cp sh fc A H K (x1_calm_res_sold, (x1_calm_res_fallen fc)) zForever from by omega] at hM ⊢
      refine z_iload hX dX1_mood_20 22 rfl 4 rfl ?_
      refine z_iload_n hX dX1_mood_22 23 rfl (i := 3) rfl 2 rfl ?_
      refine z_icmp_geN hX (fs_gone N tk cp sh fc A H K (x1_calm_res_sold, (x1_calm_res_fallen fc)) zForever) (fs_gone N tk cp sh fc A H K (x1_calm_res_sold, (x1_calm_res_fallen fc)) zForever) (by omega) (by omega) dX1_mood_23 26 rfl (tgt := 69) (by decide) (fun c4 => ?_) (fun c4 => ?_)
      · exact E2 _ hM
      · exact absurd c4 (by omega)
    | succ k ih =>
      intro j1 hj1 G hM
      refine z_iload hX dX1_mood_20 22 rfl 4 rfl ?_
      refine z_iload_n hX dX1_mood_22 23 rfl (i := 3) rfl 2 rfl ?_
      refine z_icmp_geN hX j1 (fs_gone N tk cp sh fc A H K (x1_calm_res_sold, (x1_calm_res_fallen fc)) zForever) (by omega) (by omega) dX1_mood_23 26 rfl (tgt := 69) (by decide) (fun c5 => ?_) (fun c5 => ?_)
      · exact absurd c5 (by omega)
      ·
        refine z_aload_n hX dX1_mood_26 27 rfl (i := 0) rfl 0 rfl ?_
        refine z_aload hX dX1_mood_27 29 rfl 3 rfl ?_
        refine z_aload_n hX dX1_mood_29 30 rfl (i := 0) rfl 0 rfl ?_
        obtain ⟨opr, os1, os2, of1, of2, ob1, ob2, hT9, h19, h29⟩ := id hM.1
        refine z_getf hX fX1_57 hT9.o dX1_mood_30 33 rfl (x := .ref (B 21 0)) rfl ?_
        obtain ⟨opr, os1, os2, of1, of2, ob1, ob2, hT9, h19, h29⟩ := id hM.1
        refine z_callV hX cwX1_176 (met_X1_next hG hT9 hM.2.2.1 h29 hN (show ¬ 2 = 9 from by decide) ne_t_s12_0 (zkr (by decide)) (Ne.symm ne_t_s12_2)) hT9.o rfl rfl dX1_mood_33 36 rfl rfl rfl (Nat.le_of_ble_eq_true rfl) (by decide) ⟨by omega, by omega⟩ (fun r G hP => ?_)
        obtain ⟨rfl, hP⟩ := hP
        have hTwo : zSt g G (q, 2) (B 21 0) ob2 (fs_ns N tk cp sh fc A H K ((x1_mood_l20 N tk cp sh fc A H K (FP.dconst1, x1_calm_res_sold, x1_calm_res_fallen fc) j1).2.1) ((x1_mood_l20 N tk cp sh fc A H K (FP.dconst1, x1_calm_res_sold, x1_calm_res_fallen fc) j1).2.2)) (fs_nf N tk cp sh fc A H K ((x1_mood_l20 N tk cp sh fc A H K (FP.dconst1, x1_calm_res_sold, x1_calm_res_fallen fc) j1).2.1) ((x1_mood_l20 N tk cp sh fc A H K (FP.dconst1, x1_calm_res_sold, x1_calm_res_fallen fc) j1).2.2)) := hP.2.2.1.congr (x1_next_eq (pr' := fun _ => 0) (o' := fun _ => 0) hN2 (fun _ _ => rfl)).1 (x1_next_eq (cp := cp) (pr' := fun _ => 0) (o' := fun _ => 0) hN2 (fun _ _ => rfl)).2
        have hM : zTw g G q t B N tk cp sh fc (x1_rounds_gn N tk cp sh fc x1_calm_res_sold (x1_calm_res_fallen fc) A H K) ∧ zSt g G (ns4, 0) s4 bs4 x1_calm_res_sold (x1_calm_res_fallen fc) ∧ zSt g G (ns12, 0) s12 bs12 ((x1_mood_l20 N tk cp sh fc A H K (FP.dconst1, x1_calm_res_sold, x1_calm_res_fallen fc) j1).2.1) ((x1_mood_l20 N tk cp sh fc A H K (FP.dconst1, x1_calm_res_sold, x1_calm_res_fallen fc) j1).2.2) ∧ zFrK [(q, 0), (q, 1), (q, 2)] G0 G := ⟨⟨_, os1, _, of1, _, ob1, ob2, hP.1, h19.kp (hP.2.2.2.kp (zni1 (zkr (by decide)) (zni1 (zkr (by decide)) zni0))), hP.2.2.1⟩, hM.2.1.kp (hP.2.2.2.kp (zni1 (Ne.symm ne_t_s4_0) (zni1 (Ne.symm ne_t_s4_2) zni0))), hP.2.1, hM.2.2.2.stepL hP.2.2.2 (zml1 (Or.inl List.mem_cons_self) (zml1 (Or.inl (List.mem_cons_of_mem _ (List.mem_cons_of_mem _ List.mem_cons_self))) zml0))⟩
        show ZW g X 7 22 G 36 [(0, .ref t), (1, .double ((x1_mood_l20 N tk cp sh fc A H K (FP.dconst1, x1_calm_res_sold, x1_calm_res_fallen fc) j1).1)), (3, .int (nI (fs_gone N tk cp sh fc A H K (x1_calm_res_sold, (x1_calm_res_fallen fc)) zForever))), (4, .ref s12), (5, .int (nI j1))] []
        refine z_aload hX dX1_mood_36 38 rfl 3 rfl ?_
        refine z_aload_n hX dX1_mood_38 39 rfl (i := 0) rfl 0 rfl ?_
        obtain ⟨opr, os1, os2, of1, of2, ob1, ob2, hT9, h19, h29⟩ := id hM.1
        refine z_getf hX fX1_57 hT9.o dX1_mood_39 42 rfl (x := .ref (B 21 0)) rfl ?_
        refine z_callV hX cwX1_170 (met_X3_like hG hM.2.2.1 hTwo (show ¬ 0 = 9 from by decide) (Ne.symm ne_t_s12_2)) hM.2.2.1.o rfl rfl dX1_mood_42 45 rfl rfl rfl (Nat.le_of_ble_eq_true rfl) (by decide) ⟨by omega, by omega⟩ (fun r G hP => ?_)
        obtain ⟨rfl, hP⟩ := hP
        have hM : zTw g G q t B N tk cp sh fc (x1_rounds_gn N tk cp sh fc x1_calm_res_sold (x1_calm_res_fallen fc) A H K) ∧ zSt g G (ns4, 0) s4 bs4 x1_calm_res_sold (x1_calm_res_fallen fc) ∧ zSt g G (ns12, 0) s12 bs12 (fs_ns N tk cp sh fc A H K ((x1_mood_l20 N tk cp sh fc A H K (FP.dconst1, x1_calm_res_sold, x1_calm_res_fallen fc) j1).2.1) ((x1_mood_l20 N tk cp sh fc A H K (FP.dconst1, x1_calm_res_sold, x1_calm_res_fallen fc) j1).2.2)) (fs_nf N tk cp sh fc A H K ((x1_mood_l20 N tk cp sh fc A H K (FP.dconst1, x1_calm_res_sold, x1_calm_res_fallen fc) j1).2.1) ((x1_mood_l20 N tk cp sh fc A H K (FP.dconst1, x1_calm_res_sold, x1_calm_res_fallen fc) j1).2.2)) ∧ zFrK [(q, 0), (q, 1), (q, 2)] G0 G := ⟨hM.1.kp (hP.2.2.kp (zni1 ne_t_s12_0 zni0)) (hP.2.2.kp (zni1 ne_t_s12_1 zni0)) (hP.2.2.kp (zni1 ne_t_s12_2 zni0)), hM.2.1.kp (hP.2.2.kp (zni1 ne_s4_s12 zni0)), hP.1, hM.2.2.2.stepF hP.2.2 fn_s12⟩
        show ZW g X 7 22 G 45 [(0, .ref t), (1, .double ((x1_mood_l20 N tk cp sh fc A H K (FP.dconst1, x1_calm_res_sold, x1_calm_res_fallen fc) j1).1)), (3, .int (nI (fs_gone N tk cp sh fc A H K (x1_calm_res_sold, (x1_calm_res_fallen fc)) zForever))), (4, .ref s12), (5, .int (nI j1))] []
        refine z_dload_n hX dX1_mood_45 46 rfl (i := 1) rfl 1 rfl ?_
        refine z_ldc2d hX q1056 dX1_mood_46 49 rfl ?_
        refine z_dmul hX dX1_mood_49 50 rfl (af0 j1 (by omega)) ?_
        refine z_aload_n hX dX1_mood_50 51 rfl (i := 0) rfl 0 rfl ?_
        refine z_aload hX dX1_mood_51 53 rfl 3 rfl ?_
        obtain ⟨opr, os1, os2, of1, of2, ob1, ob2, hT9, h19, h29⟩ := id hM.1
        refine z_callVp hX cwX1_227 (w := .float (x1_index N tk sh (fs_ns N tk cp sh fc A H K ((x1_mood_l20 N tk cp sh fc A H K (FP.dconst1, x1_calm_res_sold, x1_calm_res_fallen fc) j1).2.1) ((x1_mood_l20 N tk cp sh fc A H K (FP.dconst1, x1_calm_res_sold, x1_calm_res_fallen fc) j1).2.2)) A K)) (met_X1_index hG hT9 hM.2.2.1 hN (af1 j1 (by omega)) (af2 j1 (by omega)) (af3 j1 (by omega)) (af4 j1 (by omega))) hT9.o rfl rfl dX1_mood_53 56 rfl rfl rfl (Nat.le_of_ble_eq_true rfl) (by decide) ⟨by omega, by omega⟩ ?_
        refine z_f2d hX dX1_mood_56 57 rfl (af5 j1 (by omega)) ?_
        refine z_ldc2d hX q1056 dX1_mood_57 60 rfl ?_
        refine z_dmul hX dX1_mood_60 61 rfl (af6 j1 (by omega)) ?_
        refine z_dadd hX dX1_mood_61 62 rfl (af7 j1 (by omega)) ?_
        refine z_dstore_n hX dX1_mood_62 63 rfl (i := 1) rfl (Nat.le_of_ble_eq_true rfl) rfl (L' := [(0, .ref t), (1, .double (FP.dadd (FP.dmul ((x1_mood_l20 N tk cp sh fc A H K (FP.dconst1, x1_calm_res_sold, x1_calm_res_fallen fc) j1).1) 4602678819172646912) (FP.dmul (FP.f2d (x1_index N tk sh (fs_ns N tk cp sh fc A H K ((x1_mood_l20 N tk cp sh fc A H K (FP.dconst1, x1_calm_res_sold, x1_calm_res_fallen fc) j1).2.1) ((x1_mood_l20 N tk cp sh fc A H K (FP.dconst1, x1_calm_res_sold, x1_calm_res_fallen fc) j1).2.2)) A K)) 4602678819172646912))), (3, .int (nI (fs_gone N tk cp sh fc A H K (x1_calm_res_sold, (x1_calm_res_fallen fc)) zForever))), (4, .ref s12), (5, .int (nI j1))]) rfl ?_
        refine z_iinc hX dX1_mood_63 66 rfl 4 rfl (w := nI (j1 + 1)) (nI_1 j1) (Nat.le_of_ble_eq_true rfl) rfl (L' := [(0, .ref t), (1, .double (FP.dadd (FP.dmul ((x1_mood_l20 N tk cp sh fc A H K (FP.dconst1, x1_calm_res_sold, x1_calm_res_fallen fc) j1).1) 4602678819172646912) (FP.dmul (FP.f2d (x1_index N tk sh (fs_ns N tk cp sh fc A H K ((x1_mood_l20 N tk cp sh fc A H K (FP.dconst1, x1_calm_res_sold, x1_calm_res_fallen fc) j1).2.1) ((x1_mood_l20 N tk cp sh fc A H K (FP.dconst1, x1_calm_res_sold, x1_calm_res_fallen fc) j1).2.2)) A K)) 4602678819172646912))), (3, .int (nI (fs_gone N tk cp sh fc A H K (x1_calm_res_sold, (x1_calm_res_fallen fc)) zForever))), (4, .ref s12), (5, .int (nI (j1 + 1)))]) rfl ?_
        refine z_goto hX dX1_mood_66 (tgt := 20) (by decide) ?_
        exact ih (j1 + 1) (by omega) _ hM
  have hM : zTw g G q t B N tk cp sh fc (x1_rounds_gn N tk cp sh fc x1_calm_res_sold (x1_calm_res_fallen fc) A H K) ∧ zSt g G (ns4, 0) s4 bs4 x1_calm_res_sold (x1_calm_res_fallen fc) ∧ zSt g G (ns12, 0) s12 bs12 ((x1_mood_l20 N tk cp sh fc A H K (FP.dconst1, x1_calm_res_sold, x1_calm_res_fallen fc) 0).2.1) ((x1_mood_l20 N tk cp sh fc A H K (FP.dconst1, x1_calm_res_sold, x1_calm_res_fallen fc) 0).2.2) ∧ zFrK [(q, 0), (q, 1), (q, 2)] G0 G := by simpa only [x1_mood_l20_0] using hM
  exact Lp3 (fs_gone N tk cp sh fc A H K (x1_calm_res_sold, (x1_calm_res_fallen fc)) zForever) 0 (by omega) _ hM
def x1_falls_l55 (N : Nat → Int32) (tk : Nat → Int32) (cp : Nat → Int32) (sh : Nat → Int32) (fc : Int32) (A : Nat) (H : Nat) (K : Nat → Nat) (j1 : Nat) (cj1 : (Nat → Int32) × (Nat → Int32) × Int32) (ini : Nat → Int32) (k : Nat) : Nat → Int32 := zfold k (fun j3 cj3 => if x0_has (fs_nf N tk cp sh fc A H K cj1.2.1 cj1.2.2) (nI j3) then upd cj3 j3 (if (nI (1 + j1)) < (cj3 j3) then (nI (1 + j1)) else (cj3 j3) : Int32) else cj3) ini
theorem x1_falls_l55_0 (N : Nat → Int32) (tk : Nat → Int32) (cp : Nat → Int32) (sh : Nat → Int32) (fc : Int32) (A : Nat) (H : Nat) (K : Nat → Nat) (j1 : Nat) (cj1 : (Nat → Int32) × (Nat → Int32) × Int32) (ini : Nat → Int32) : x1_falls_l55 N tk cp sh fc A H K j1 cj1 ini 0 = ini := (zfold_0 _ _).trans (Eq.refl _)
def x1_falls_l29 (N : Nat → Int32) (tk : Nat → Int32) (cp : Nat → Int32) (sh : Nat → Int32) (fc : Int32) (A : Nat) (H : Nat) (K : Nat → Nat) (ini : (Nat → Int32) × (Nat → Int32) × Int32) (k : Nat) : (Nat → Int32) × (Nat → Int32) × Int32 := zfold k (fun j1 cj1 => (x1_falls_l55 N tk cp sh fc A H K j1 cj1 cj1.1 H, fs_ns N tk cp sh fc A H K cj1.2.1 cj1.2.2, fs_nf N tk cp sh fc A H K cj1.2.1 cj1.2.2)) ini
theorem x1_falls_l29_0 (N : Nat → Int32) (tk : Nat → Int32) (cp : Nat → Int32) (sh : Nat → Int32) (fc : Int32) (A : Nat) (H : Nat) (K : Nat → Nat) (ini : (Nat → Int32) × (Nat → Int32) × Int32) : x1_falls_l29 N tk cp sh fc A H K ini 0 = ini := (zfold_0 _ _).trans (Eq.refl _)
noncomputable def x1_falls_gn (N : Nat → Int32) (tk : Nat → Int32) (cp : Nat → Int32) (sh : Nat → Int32) (fc : Int32) (A : Nat) (H : Nat) (K : Nat → Nat) : Int32 := x1_rounds_gn N tk cp sh fc x1_calm_res_sold (x1_calm_res_fallen fc) A H K
noncomputable def x1_falls_res_f (N : Nat → Int32) (tk : Nat → Int32) (cp : Nat → Int32) (sh : Nat → Int32) (fc : Int32) (A : Nat) (H : Nat) (K : Nat → Nat) : Nat → Int32 := (x1_falls_l29 N tk cp sh fc A H K (x9_fill6_a_f (fun _ => 0) 2000, x1_calm_res_sold, x1_calm_res_fallen fc) (fs_gone N tk cp sh fc A H K (x1_calm_res_sold, (x1_calm_res_fallen fc)) zForever)).1
set_option maxHeartbeats 4000000 in
theorem met_X1_falls {g : Zg} (hG : zG g) {G0 : zHG} {q t : Nat} {B : Nat → Nat → Nat} {N tk cp sh : Nat → Int32} {fc gn : Int32} (ht : zTw g G0 q t B N tk cp sh fc gn) {A H : Nat} {K : Nat → Nat} (hN : zWf N A H K)  : ZM g yX1_falls cX1_falls 6 (some (FieldType.array FieldType.int)) 9 8 28 [.ref t] G0 (fun r G' => ∃ nR aR : Nat, zFresh G0 nR ∧ r = some (.ref aR) ∧ (zTw g G' q t B N tk cp sh fc (x1_falls_gn N tk cp sh fc A H K) ∧ zAr G' aR (nR, 0) (zca g 0) 6 (x1_falls_res_f N tk cp sh fc A H K) ∧ zFrK [(q, 0), (q, 1), (q, 2)] G0 G')) := by
  unfold x1_falls_gn x1_falls_res_f
  have hN2 := hN.2.1
  have hN4 := hN.2.2.2.1
  refine ZM_mk hG (by decide) (Nat.le_of_ble_eq_true rfl) ?_
  intro X hX hname hQ
  obtain ⟨G, hGe⟩ : ∃ z, z = G0 := ⟨_, rfl⟩
  have hM : zTw g G q t B N tk cp sh fc gn ∧ zFrK [(q, 0), (q, 1), (q, 2)] G0 G := by rw [hGe]; exact ⟨ht, zFrK.rf⟩
  show ZW g X 0 0 G0 0 [(0, .ref t)] []
  rw [← hGe]
  refine z_bipush hX dX1_falls_0 2 rfl zkb_6 ?_
  refine z_fresh (fun na2 hza2 => ?_)
  obtain ⟨fs9, ho9⟩ := hM.1.o
  have ne_t_a2_0 : (q, 0) ≠ (na2, 0) := hza2.neT ho9
  have ne_t_a2_1 : (q, 1) ≠ (na2, 0) := hza2.neT ho9
  have ne_t_a2_2 : (q, 2) ≠ (na2, 0) := hza2.neT ho9
  have nq_t_a2 : q ≠ na2 := hza2 _ _ _ ho9
  have fn_a2 : zFresh G0 na2 := hza2.of' hM.2 (zfm1 nq_t_a2 (zfm1 nq_t_a2 (zfm1 nq_t_a2 zfm0)))
  refine z_newa hX (atype := .int) (fun _ => (na2, 0)) 0 rfl rfl q168 (N := 6) (a0 := (6, .inl (fun _ => 0))) (fun _ => rfl) dX1_falls_2 4 rfl (by decide) (by decide) (by decide) (by omega) (by omega) (fun a2 haa2 _ => ?_)
  have hf : zFrK [] _ (zup G a2 ((na2, 0), zI (zca g 0) 6 (fun _ => 0))) := zup_new haa2
  have hw : zAr (zup G a2 ((na2, 0), zI (zca g 0) 6 (fun _ => 0))) a2 (na2, 0) (zca g 0) 6 (fun _ => 0) := ⟨_, zup_self _ _ _, fun _ _ => rfl⟩
  generalize zup G a2 ((na2, 0), zI (zca g 0) 6 (fun _ => 0)) = G at hf hw ⊢
  have hM : zTw g G q t B N tk cp sh fc gn ∧ zAr G a2 (na2, 0) (zca g 0) 6 (fun _ => 0) ∧ zFrK [(q, 0), (q, 1), (q, 2)] G0 G := ⟨hM.1.kp (hf.kp zni0) (hf.kp zni0) (hf.kp zni0), hw, hM.2.stepL hf zml0⟩
  refine z_astore_n hX dX1_falls_4 5 rfl (i := 1) rfl (Nat.le_of_ble_eq_true rfl) rfl (L' := [(0, .ref t), (1, .ref a2)]) rfl ?_
  refine z_aload_n hX dX1_falls_5 6 rfl (i := 1) rfl 1 rfl ?_
  refine z_sipush hX dX1_falls_6 9 rfl zks_2000 ?_
  refine z_callS hX cwX1_164 (met_J9_fill6 hG hM.2.1 (by rw [(zky0 na2 0 (by decide))]; exact (show ¬ 0 = 9 from by decide)) 2000) dX1_falls_9 12 rfl rfl rfl (Nat.le_of_ble_eq_true rfl) (by decide) ⟨by omega, by omega⟩ (fun r G hP => ?_)
  obtain ⟨rfl, hP⟩ := hP
  have hfK : zFrK [(na2, 0)] _ G := hP.2.toK (zky0 na2 0 (by decide)) (show ¬ 0 = 9 from by decide)
  have hM : zTw g G q t B N tk cp sh fc gn ∧ zAr G a2 (na2, 0) (zca g 0) 6 (x9_fill6_a_f (fun _ => 0) 2000) ∧ zFrK [(q, 0), (q, 1), (q, 2)] G0 G := ⟨hM.1.kp (hfK.kp (zni1 ne_t_a2_0 zni0)) (hfK.kp (zni1 ne_t_a2_1 zni0)) (hfK.kp (zni1 ne_t_a2_2 zni0)), hP.1, hM.2.2.stepF hfK fn_a2⟩
  show ZW g X 1 6 G 12 [(0, .ref t), (1, .ref a2)] []
  refine z_aload_n hX dX1_falls_12 13 rfl (i := 0) rfl 0 rfl ?_
  refine z_aload_n hX dX1_falls_13 14 rfl (i := 0) rfl 0 rfl ?_
  obtain ⟨opr, os1, os2, of1, of2, ob1, ob2, hT9, h19, h29⟩ := id hM.1
  refine z_callV hX cwX1_187 (met_X1_calm hG hT9) hT9.o rfl rfl dX1_falls_14 17 rfl rfl rfl (Nat.le_of_ble_eq_true rfl) (by decide) ⟨by omega, by omega⟩ (fun r G hP => ?_)
  obtain ⟨ns14, s14, bs14, hzs14, rfl, hP⟩ := hP
  obtain ⟨fs9, ho9⟩ := hM.1.o
  have ne_t_s14_0 : (q, 0) ≠ (ns14, 0) := hzs14.neT ho9
  have ne_t_s14_1 : (q, 1) ≠ (ns14, 0) := hzs14.neT ho9
  have ne_t_s14_2 : (q, 2) ≠ (ns14, 0) := hzs14.neT ho9
  have nq_t_s14 : q ≠ ns14 := hzs14 _ _ _ ho9
  have ne_a2_s14 : (na2, 0) ≠ (ns14, 0) := fun z => hzs14.neA hM.2.1 ((zky0 na2 0 (by decide)).trans z)
  have fn_s14 : zFresh G0 ns14 := hzs14.of' hM.2.2 (zfm1 nq_t_s14 (zfm1 nq_t_s14 (zfm1 nq_t_s14 zfm0)))
  have hM : zTw g G q t B N tk cp sh fc gn ∧ zAr G a2 (na2, 0) (zca g 0) 6 (x9_fill6_a_f (fun _ => 0) 2000) ∧ zSt g G (ns14, 0) s14 bs14 x1_calm_res_sold (x1_calm_res_fallen fc) ∧ zFrK [(q, 0), (q, 1), (q, 2)] G0 G := ⟨⟨_, os1, os2, of1, of2, ob1, ob2, hP.1, h19.kp (hP.2.2.kp zni0), h29.kp (hP.2.2.kp zni0)⟩, hM.2.1.kp (hP.2.2.kp zni0) (zky0 na2 0 (by decide)), hP.2.1, hM.2.2.stepL hP.2.2 zml0⟩
  show ZW g X 3 12 G 17 [(0, .ref t), (1, .ref a2)] [.ref s14, .ref t]
  obtain ⟨fs9, ho9⟩ := hM.1.o
  refine z_callV hX cwX1_232 (met_X1_rounds hG hM.1 hM.2.2.1 hN ne_t_s14_0 ne_t_s14_1 ne_t_s14_2) ho9 rfl rfl dX1_falls_17 20 rfl rfl rfl (Nat.le_of_ble_eq_true rfl) (by decide) ⟨by omega, by omega⟩ (fun r G hP => ?_)
  obtain ⟨rfl, hP⟩ := hP
  have hM : zTw g G q t B N tk cp sh fc (x1_rounds_gn N tk cp sh fc x1_calm_res_sold (x1_calm_res_fallen fc) A H K) ∧ zAr G a2 (na2, 0) (zca g 0) 6 (x9_fill6_a_f (fun _ => 0) 2000) ∧ zSt g G (ns14, 0) s14 bs14 x1_calm_res_sold (x1_calm_res_fallen fc) ∧ zFrK [(q, 0), (q, 1), (q, 2)] G0 G := ⟨hP.1, hM.2.1.kp (hP.2.2.kp (zni1 (Ne.symm ne_t_a2_0) (zni1 (Ne.symm ne_t_a2_1) (zni1 (Ne.symm ne_t_a2_2) zni0)))) (zky0 na2 0 (by decide)), hP.2.1, hM.2.2.2.stepL hP.2.2 (zml1 (Or.inl List.mem_cons_self) (zml1 (Or.inl (List.mem_cons_of_mem _ List.mem_cons_self)) (zml1 (Or.inl (List.mem_cons_of_mem _ (List.mem_cons_of_mem _ List.mem_cons_self))) zml0)))⟩
  show ZW g X 6 22 G 20 [(0, .ref t), (1, .ref a2)] [.int (nI (fs_gone N tk cp sh fc A H K (x1_calm_res_sold, (x1_calm_res_fallen fc)) zForever))]
  have hgo17 : fs_gone N tk cp sh fc A H K (x1_calm_res_sold, (x1_calm_res_fallen fc)) zForever < 1000001 := Nat.lt_of_le_of_lt fs_gone_le zFor_lt
  refine z_istore_n hX dX1_falls_20 21 rfl (i := 2) rfl (Nat.le_of_ble_eq_true rfl) rfl (L' := [(0, .ref t), (1, .ref a2), (2, .int (nI (fs_gone N tk cp sh fc A H K (x1_calm_res_sold, (x1_calm_res_fallen fc)) zForever)))]) rfl ?_
  refine z_aload_n hX dX1_falls_21 22 rfl (i := 0) rfl 0 rfl ?_
  obtain ⟨opr, os1, os2, of1, of2, ob1, ob2, hT9, h19, h29⟩ := id hM.1
  refine z_callV hX cwX1_187 (met_X1_calm hG hT9) hT9.o rfl rfl dX1_falls_22 25 rfl rfl rfl (Nat.le_of_ble_eq_true rfl) (by decide) ⟨by omega, by omega⟩ (fun r G hP => ?_)
  obtain ⟨ns22, s22, bs22, hzs22, rfl, hP⟩ := hP
  obtain ⟨fs9, ho9⟩ := hM.1.o
  have ne_t_s22_0 : (q, 0) ≠ (ns22, 0) := hzs22.neT ho9
  have ne_t_s22_1 : (q, 1) ≠ (ns22, 0) := hzs22.neT ho9
  have ne_t_s22_2 : (q, 2) ≠ (ns22, 0) := hzs22.neT ho9
  have nq_t_s22 : q ≠ ns22 := hzs22 _ _ _ ho9
  have ne_a2_s22 : (na2, 0) ≠ (ns22, 0) := fun z => hzs22.neA hM.2.1 ((zky0 na2 0 (by decide)).trans z)
  have ne_s14_s22 : (ns14, 0) ≠ (ns22, 0) := hzs22.neS hM.2.2.1.o
  have fn_s22 : zFresh G0 ns22 := hzs22.of' hM.2.2.2 (zfm1 nq_t_s22 (zfm1 nq_t_s22 (zfm1 nq_t_s22 zfm0)))
  have hM : zTw g G q t B N tk cp sh fc (x1_rounds_gn N tk cp sh fc x1_calm_res_sold (x1_calm_res_fallen fc) A H K) ∧ zAr G a2 (na2, 0) (zca g 0) 6 (x9_fill6_a_f (fun _ => 0) 2000) ∧ zSt g G (ns14, 0) s14 bs14 x1_calm_res_sold (x1_calm_res_fallen fc) ∧ zSt g G (ns22, 0) s22 bs22 x1_calm_res_sold (x1_calm_res_fallen fc) ∧ zFrK [(q, 0), (q, 1), (q, 2)] G0 G := ⟨⟨_, os1, os2, of1, of2, ob1, ob2, hP.1, h19.kp (hP.2.2.kp zni0), h29.kp (hP.2.2.kp zni0)⟩, hM.2.1.kp (hP.2.2.kp zni0) (zky0 na2 0 (by decide)), hM.2.2.1.kp (hP.2.2.kp zni0), hP.2.1, hM.2.2.2.stepL hP.2.2 zml0⟩
  show ZW g X 8 28 G 25 [(0, .ref t), (1, .ref a2), (2, .int (nI (fs_gone N tk cp sh fc A H K (x1_calm_res_sold, (x1_calm_res_fallen fc)) zForever)))] [.ref s22]
  refine z_astore_n hX dX1_falls_25 26 rfl (i := 3) rfl (Nat.le_of_ble_eq_true rfl) rfl (L' := [(0, .ref t), (1, .ref a2), (2, .int (nI (fs_gone N tk cp sh fc A H K (x1_calm_res_sold, (x1_calm_res_fallen fc)) zForever))), (3, .ref s22)]) rfl ?_
  refine z_iconst hX dX1_falls_26 27 rfl zki_1 ?_
  refine z_istore hX dX1_falls_27 29 rfl (Nat.le_of_ble_eq_true rfl) rfl (L' := [(0, .ref t), (1, .ref a2), (2, .int (nI (fs_gone N tk cp sh fc A H K (x1_calm_res_sold, (x1_calm_res_fallen fc)) zForever))), (3, .ref s22), (4, .int 1)]) rfl ?_
  have E2 : ∀ G : zHG, zTw g G q t B N tk cp sh fc (x1_rounds_gn N tk cp sh fc x1_calm_res_sold (x1_calm_res_fallen fc) A H K) ∧ zAr G a2 (na2, 0) (zca g 0) 6 ((x1_falls_l29 N tk cp sh fc A H K (x9_fill6_a_f (fun _ => 0) 2000, x1_calm_res_sold, x1_calm_res_fallen fc) (fs_gone N tk cp sh fc A H K (x1_calm_res_sold, (x1_calm_res_fallen fc)) zForever)).1) ∧ zSt g G (ns14, 0) s14 bs14 x1_calm_res_sold (x1_calm_res_fallen fc) ∧ zSt g G (ns22, 0) s22 bs22 ((x1_falls_l29 N tk cp sh fc A H K (x9_fill6_a_f (fun _ => 0) 2000, x1_calm_res_sold, x1_calm_res_fallen fc) (fs_gone N tk cp sh fc A H K (x1_calm_res_sold, (x1_calm_res_fallen fc)) zForever)).2.1) ((x1_falls_l29 N tk cp sh fc A H K (x9_fill6_a_f (fun _ => 0) 2000, x1_calm_res_sold, x1_calm_res_fallen fc) (fs_gone N tk cp sh fc A H K (x1_calm_res_sold, (x1_calm_res_fallen fc)) zForever)).2.2) ∧ zFrK [(q, 0), (q, 1), (q, 2)] G0 G → ZW g X 8 28 G 101 [(0, .ref t), (1, .ref a2), (2, .int (nI (fs_gone N tk cp sh fc A H K (x1_calm_res_sold, (x1_calm_res_fallen fc)) zForever))), (3, .ref s22), (4, .int (nI (1 + (fs_gone N tk cp sh fc A H K (x1_calm_res_sold, (x1_calm_res_fallen fc)) zForever))))] [] := by
    intro G hM
    refine z_aload_n hX dX1_falls_101 102 rfl (i := 1) rfl 1 rfl ?_
    have hM : zTw g G q t B N tk cp sh fc (x1_rounds_gn N tk cp sh fc x1_calm_res_sold (x1_calm_res_fallen fc) A H K) ∧ zAr G a2 (na2, 0) (zca g 0) 6 ((x1_falls_l29 N tk cp sh fc A H K (x9_fill6_a_f (fun _ => 0) 2000, x1_calm_res_sold, x1_calm_res_fallen fc) (fs_gone N tk cp sh fc A H K (x1_calm_res_sold, (x1_calm_res_fallen fc)) zForever)).1) ∧ zFrK [(q, 0), (q, 1), (q, 2)] G0 G := ⟨hM.1, hM.2.1, hM.2.2.2.2⟩
    exact z_aret hX hQ (by omega) (by omega) rfl (Or.inr ⟨_, rfl⟩) dX1_falls_102 ⟨_, _, fn_a2, rfl, hM⟩
  have Lp3 : ∀ k j1 : Nat, j1 + k = (fs_gone N tk cp sh fc A H K (x1_calm_res_sold, (x1_calm_res_fallen fc)) zForever) → ∀ G : zHG, zTw g G q t B N tk cp sh fc (x1_rounds_gn N tk cp sh fc x1_calm_res_sold (x1_calm_res_fallen fc) A H K) ∧ zAr G a2 (na2, 0) (zca g 0) 6 ((x1_falls_l29 N tk cp sh fc A H K (x9_fill6_a_f (fun _ => 0) 2000, x1_calm_res_sold, x1_calm_res_fallen fc) j1).1) ∧ zSt g G (ns14, 0) s14 bs14 x1_calm_res_sold (x1_calm_res_fallen fc) ∧ zSt g G (ns22, 0) s22 bs22 ((x1_falls_l29 N tk cp sh fc A H K (x9_fill6_a_f (fun _ => 0) 2000, x1_calm_res_sold, x1_calm_res_fallen fc) j1).2.1) ((x1_falls_l29 N tk cp sh fc A H K (x9_fill6_a_f (fun _ => 0) 2000, x1_calm_res_sold, x1_calm_res_fallen fc) j1).2.2) ∧ zFrK [(q, 0), (q, 1), (q, 2)] G0 G → ZW g X 8 28 G 29 [(0, .ref t), (1, .ref a2), (2, .int (nI (fs_gone N tk cp sh fc A H K (x1_calm_res_sold, (x1_calm_res_fallen fc)) zForever))), (3, .ref s22), (4, .int (nI (1 + j1)))] [] := by
    intro k
    induction k with
    | zero =>
      intro j1 hj1 G hM
      rw [show j1 = (fs_gone N tk cp sh fc A H K (x1_calm_res_sold, (x1_calm_res_fallen fc)) zForever) from by omega] at hM ⊢
      refine z_iload hX dX1_falls_29 31 rfl 4 rfl ?_
      refine z_iload_n hX dX1_falls_31 32 rfl (i := 2) rfl 2 rfl ?_
      refine z_icmp_gtN hX (1 + (fs_gone N tk cp sh fc A H K (x1_calm_res_sold, (x1_calm_res_fallen fc)) zForever)) (fs_gone N tk cp sh fc A H K (x1_calm_res_sold, (x1_calm_res_fallen fc)) zForever) (by omega) (by omega) dX1_falls_32 35 rfl (tgt := 101) (by decide) (fun c4 => ?_) (fun c4 => ?_)
      · exact E2 _ hM
      · exact absurd c4 (by omega)
    | succ k ih =>
      intro j1 hj1 G hM
      refine z_iload hX dX1_falls_29 31 rfl 4 rfl ?_
      refine z_iload_n hX dX1_falls_31 32 rfl (i := 2) rfl 2 rfl ?_
      refine z_icmp_gtN hX (1 + j1) (fs_gone N tk cp sh fc A H K (x1_calm_res_sold, (x1_calm_res_fallen fc)) zForever) (by omega) (by omega) dX1_falls_32 35 rfl (tgt := 101) (by decide) (fun c5 => ?_) (fun c5 => ?_)
      · exact absurd c5 (by omega)
      ·
        refine z_aload_n hX dX1_falls_35 36 rfl (i := 0) rfl 0 rfl ?_
        refine z_aload_n hX dX1_falls_36 37 rfl (i := 3) rfl 3 rfl ?_
        refine z_aload_n hX dX1_falls_37 38 rfl (i := 0) rfl 0 rfl ?_
        obtain ⟨opr, os1, os2, of1, of2, ob1, ob2, hT9, h19, h29⟩ := id hM.1
        refine z_getf hX fX1_57 hT9.o dX1_falls_38 41 rfl (x := .ref (B 21 0)) rfl ?_
        obtain ⟨opr, os1, os2, of1, of2, ob1, ob2, hT9, h19, h29⟩ := id hM.1
        refine z_callV hX cwX1_176 (met_X1_next hG hT9 hM.2.2.2.1 h29 hN (show ¬ 2 = 9 from by decide) ne_t_s22_0 (zkr (by decide)) (Ne.symm ne_t_s22_2)) hT9.o rfl rfl dX1_falls_41 44 rfl rfl rfl (Nat.le_of_ble_eq_true rfl) (by decide) ⟨by omega, by omega⟩ (fun r G hP => ?_)
        obtain ⟨rfl, hP⟩ := hP
        have hTwo : zSt g G (q, 2) (B 21 0) ob2 (fs_ns N tk cp sh fc A H K ((x1_falls_l29 N tk cp sh fc A H K (x9_fill6_a_f (fun _ => 0) 2000, x1_calm_res_sold, x1_calm_res_fallen fc) j1).2.1) ((x1_falls_l29 N tk cp sh fc A H K (x9_fill6_a_f (fun _ => 0) 2000, x1_calm_res_sold, x1_calm_res_fallen fc) j1).2.2)) (fs_nf N tk cp sh fc A H K ((x1_falls_l29 N tk cp sh fc A H K (x9_fill6_a_f (fun _ => 0) 2000, x1_calm_res_sold, x1_calm_res_fallen fc) j1).2.1) ((x1_falls_l29 N tk cp sh fc A H K (x9_fill6_a_f (fun _ => 0) 2000, x1_calm_res_sold, x1_calm_res_fallen fc) j1).2.2)) := hP.2.2.1.congr (x1_next_eq (pr' := fun _ => 0) (o' := fun _ => 0) hN2 (fun _ _ => rfl)).1 (x1_next_eq (cp := cp) (pr' := fun _ => 0) (o' := fun _ => 0) hN2 (fun _ _ => rfl)).2
        have hM : zTw g G q t B N tk cp sh fc (x1_rounds_gn N tk cp sh fc x1_calm_res_sold (x1_calm_res_fallen fc) A H K) ∧ zAr G a2 (na2, 0) (zca g 0) 6 ((x1_falls_l29 N tk cp sh fc A H K (x9_fill6_a_f (fun _ => 0) 2000, x1_calm_res_sold, x1_calm_res_fallen fc) j1).1) ∧ zSt g G (ns14, 0) s14 bs14 x1_calm_res_sold (x1_calm_res_fallen fc) ∧ zSt g G (ns22, 0) s22 bs22 ((x1_falls_l29 N tk cp sh fc A H K (x9_fill6_a_f (fun _ => 0) 2000, x1_calm_res_sold, x1_calm_res_fallen fc) j1).2.1) ((x1_falls_l29 N tk cp sh fc A H K (x9_fill6_a_f (fun _ => 0) 2000, x1_calm_res_sold, x1_calm_res_fallen fc) j1).2.2) ∧ zFrK [(q, 0), (q, 1), (q, 2)] G0 G := ⟨⟨_, os1, _, of1, _, ob1, ob2, hP.1, h19.kp (hP.2.2.2.kp (zni1 (zkr (by decide)) (zni1 (zkr (by decide)) zni0))), hP.2.2.1⟩, hM.2.1.kp (hP.2.2.2.kp (zni1 (Ne.symm ne_t_a2_0) (zni1 (Ne.symm ne_t_a2_2) zni0))) (zky0 na2 0 (by decide)), hM.2.2.1.kp (hP.2.2.2.kp (zni1 (Ne.symm ne_t_s14_0) (zni1 (Ne.symm ne_t_s14_2) zni0))), hP.2.1, hM.2.2.2.2.stepL hP.2.2.2 (zml1 (Or.inl List.mem_cons_self) (zml1 (Or.inl (List.mem_cons_of_mem _ (List.mem_cons_of_mem _ List.mem_cons_self))) zml0))⟩
        show ZW g X 8 28 G 44 [(0, .ref t), (1, .ref a2), (2, .int (nI (fs_gone N tk cp sh fc A H K (x1_calm_res_sold, (x1_calm_res_fallen fc)) zForever))), (3, .ref s22), (4, .int (nI (1 + j1)))] []
        refine z_aload_n hX dX1_falls_44 45 rfl (i := 3) rfl 3 rfl ?_
        refine z_aload_n hX dX1_falls_45 46 rfl (i := 0) rfl 0 rfl ?_
        obtain ⟨opr, os1, os2, of1, of2, ob1, ob2, hT9, h19, h29⟩ := id hM.1
        refine z_getf hX fX1_57 hT9.o dX1_falls_46 49 rfl (x := .ref (B 21 0)) rfl ?_
        refine z_callV hX cwX1_170 (met_X3_like hG hM.2.2.2.1 hTwo (show ¬ 0 = 9 from by decide) (Ne.symm ne_t_s22_2)) hM.2.2.2.1.o rfl rfl dX1_falls_49 52 rfl rfl rfl (Nat.le_of_ble_eq_true rfl) (by decide) ⟨by omega, by omega⟩ (fun r G hP => ?_)
        obtain ⟨rfl, hP⟩ := hP
        have hM : zTw g G q t B N tk cp sh fc (x1_rounds_gn N tk cp sh fc x1_calm_res_sold (x1_calm_res_fallen fc) A H K) ∧ zAr G a2 (na2, 0) (zca g 0) 6 ((x1_falls_l29 N tk cp sh fc A H K (x9_fill6_a_f (fun _ => 0) 2000, x1_calm_res_sold, x1_calm_res_fallen fc) j1).1) ∧ zSt g G (ns14, 0) s14 bs14 x1_calm_res_sold (x1_calm_res_fallen fc) ∧ zSt g G (ns22, 0) s22 bs22 (fs_ns N tk cp sh fc A H K ((x1_falls_l29 N tk cp sh fc A H K (x9_fill6_a_f (fun _ => 0) 2000, x1_calm_res_sold, x1_calm_res_fallen fc) j1).2.1) ((x1_falls_l29 N tk cp sh fc A H K (x9_fill6_a_f (fun _ => 0) 2000, x1_calm_res_sold, x1_calm_res_fallen fc) j1).2.2)) (fs_nf N tk cp sh fc A H K ((x1_falls_l29 N tk cp sh fc A H K (x9_fill6_a_f (fun _ => 0) 2000, x1_calm_res_sold, x1_calm_res_fallen fc) j1).2.1) ((x1_falls_l29 N tk cp sh fc A H K (x9_fill6_a_f (fun _ => 0) 2000, x1_calm_res_sold, x1_calm_res_fallen fc) j1).2.2)) ∧ zFrK [(q, 0), (q, 1), (q, 2)] G0 G := ⟨hM.1.kp (hP.2.2.kp (zni1 ne_t_s22_0 zni0)) (hP.2.2.kp (zni1 ne_t_s22_1 zni0)) (hP.2.2.kp (zni1 ne_t_s22_2 zni0)), hM.2.1.kp (hP.2.2.kp (zni1 ne_a2_s22 zni0)) (zky0 na2 0 (by decide)), hM.2.2.1.kp (hP.2.2.kp (zni1 ne_s14_s22 zni0)), hP.1, hM.2.2.2.2.stepF hP.2.2 fn_s22⟩
        show ZW g X 8 28 G 52 [(0, .ref t), (1, .ref a2), (2, .int (nI (fs_gone N tk cp sh fc A H K (x1_calm_res_sold, (x1_calm_res_fallen fc)) zForever))), (3, .ref s22), (4, .int (nI (1 + j1)))] []
        refine z_iconst hX dX1_falls_52 53 rfl zki_0 ?_
        refine z_istore hX dX1_falls_53 55 rfl (Nat.le_of_ble_eq_true rfl) rfl (L' := [(0, .ref t), (1, .ref a2), (2, .int (nI (fs_gone N tk cp sh fc A H K (x1_calm_res_sold, (x1_calm_res_fallen fc)) zForever))), (3, .ref s22), (4, .int (nI (1 + j1))), (5, .int 0)]) rfl ?_
        have E7 : ∀ G : zHG, zTw g G q t B N tk cp sh fc (x1_rounds_gn N tk cp sh fc x1_calm_res_sold (x1_calm_res_fallen fc) A H K) ∧ zAr G a2 (na2, 0) (zca g 0) 6 (x1_falls_l55 N tk cp sh fc A H K j1 (x1_falls_l29 N tk cp sh fc A H K (x9_fill6_a_f (fun _ => 0) 2000, x1_calm_res_sold, x1_calm_res_fallen fc) j1) ((x1_falls_l29 N tk cp sh fc A H K (x9_fill6_a_f (fun _ => 0) 2000, x1_calm_res_sold, x1_calm_res_fallen fc) j1).1) H) ∧ zSt g G (ns14, 0) s14 bs14 x1_calm_res_sold (x1_calm_res_fallen fc) ∧ zSt g G (ns22, 0) s22 bs22 (fs_ns N tk cp sh fc A H K ((x1_falls_l29 N tk cp sh fc A H K (x9_fill6_a_f (fun _ => 0) 2000, x1_calm_res_sold, x1_calm_res_fallen fc) j1).2.1) ((x1_falls_l29 N tk cp sh fc A H K (x9_fill6_a_f (fun _ => 0) 2000, x1_calm_res_sold, x1_calm_res_fallen fc) j1).2.2)) (fs_nf N tk cp sh fc A H K ((x1_falls_l29 N tk cp sh fc A H K (x9_fill6_a_f (fun _ => 0) 2000, x1_calm_res_sold, x1_calm_res_fallen fc) j1).2.1) ((x1_falls_l29 N tk cp sh fc A H K (x9_fill6_a_f (fun _ => 0) 2000, x1_calm_res_sold, x1_calm_res_fallen fc) j1).2.2)) ∧ zFrK [(q, 0), (q, 1), (q, 2)] G0 G → ZW g X 8 28 G 95 [(0, .ref t), (1, .ref a2), (2, .int (nI (fs_gone N tk cp sh fc A H K (x1_calm_res_sold, (x1_calm_res_fallen fc)) zForever))), (3, .ref s22), (4, .int (nI (1 + j1))), (5, .int (nI H))] [] := by
          intro G hM
          refine z_iinc hX dX1_falls_95 98 rfl 4 rfl (w := nI (1 + j1 + 1)) (nI_1 (1 + j1)) (Nat.le_of_ble_eq_true rfl) rfl (L' := [(0, .ref t), (1, .ref a2), (2, .int (nI (fs_gone N tk cp sh fc A H K (x1_calm_res_sold, (x1_calm_res_fallen fc)) zForever))), (3, .ref s22), (4, .int (nI (1 + j1 + 1))), (5, .int (nI H))]) rfl ?_
          refine z_goto hX dX1_falls_98 (tgt := 29) (by decide) ?_
          refine z_sub [0, 1, 2, 3, 4] rfl ?_
          exact ih (j1 + 1) (by omega) _ hM
        have Lp8 : ∀ k j6 : Nat, j6 + k = H → ∀ G : zHG, zTw g G q t B N tk cp sh fc (x1_rounds_gn N tk cp sh fc x1_calm_res_sold (x1_calm_res_fallen fc) A H K) ∧ zAr G a2 (na2, 0) (zca g 0) 6 (x1_falls_l55 N tk cp sh fc A H K j1 (x1_falls_l29 N tk cp sh fc A H K (x9_fill6_a_f (fun _ => 0) 2000, x1_calm_res_sold, x1_calm_res_fallen fc) j1) ((x1_falls_l29 N tk cp sh fc A H K (x9_fill6_a_f (fun _ => 0) 2000, x1_calm_res_sold, x1_calm_res_fallen fc) j1).1) j6) ∧ zSt g G (ns14, 0) s14 bs14 x1_calm_res_sold (x1_calm_res_fallen fc) ∧ zSt g G (ns22, 0) s22 bs22 (fs_ns N tk cp sh fc A H K ((x1_falls_l29 N tk cp sh fc A H K (x9_fill6_a_f (fun _ => 0) 2000, x1_calm_res_sold, x1_calm_res_fallen fc) j1).2.1) ((x1_falls_l29 N tk cp sh fc A H K (x9_fill6_a_f (fun _ => 0) 2000, x1_calm_res_sold, x1_calm_res_fallen fc) j1).2.2)) (fs_nf N tk cp sh fc A H K ((x1_falls_l29 N tk cp sh fc A H K (x9_fill6_a_f (fun _ => 0) 2000, x1_calm_res_sold, x1_calm_res_fallen fc) j1).2.1) ((x1_falls_l29 N tk cp sh fc A H K (x9_fill6_a_f (fun _ => 0) 2000, x1_calm_res_sold, x1_calm_res_fallen fc) j1).2.2)) ∧ zFrK [(q, 0), (q, 1), (q, 2)] G0 G → ZW g X 8 28 G 55 [(0, .ref t), (1, .ref a2), (2, .int (nI (fs_gone N tk cp sh fc A H K (x1_calm_res_sold, (x1_calm_res_fallen fc)) zForever))), (3, .ref s22), (4, .int (nI (1 + j1))), (5, .int (nI j6))] [] := by
          intro k
          induction k with
          | zero =>
            intro j6 hj6 G hM
            rw [show j6 = H from by omega] at hM ⊢
            refine z_iload hX dX1_falls_55 57 rfl 5 rfl ?_
            refine z_aload_n hX dX1_falls_57 58 rfl (i := 0) rfl 0 rfl ?_
            obtain ⟨opr, os1, os2, of1, of2, ob1, ob2, hT9, h19, h29⟩ := id hM.1
            refine z_getf hX fX1_74 hT9.o dX1_falls_58 61 rfl (x := .int (nI H)) (congrArg (fun z => some (Value.int z)) hN.2.2.1) ?_
            refine z_icmp_geN hX H H (by omega) (by omega) dX1_falls_61 64 rfl (tgt := 95) (by decide) (fun c9 => ?_) (fun c9 => ?_)
            · exact E7 _ hM
            · exact absurd c9 (by omega)
          | succ k ih =>
            intro j6 hj6 G hM
            refine z_iload hX dX1_falls_55 57 rfl 5 rfl ?_
            refine z_aload_n hX dX1_falls_57 58 rfl (i := 0) rfl 0 rfl ?_
            obtain ⟨opr, os1, os2, of1, of2, ob1, ob2, hT9, h19, h29⟩ := id hM.1
            refine z_getf hX fX1_74 hT9.o dX1_falls_58 61 rfl (x := .int (nI H)) (congrArg (fun z => some (Value.int z)) hN.2.2.1) ?_
            refine z_icmp_geN hX j6 H (by omega) (by omega) dX1_falls_61 64 rfl (tgt := 95) (by decide) (fun c10 => ?_) (fun c10 => ?_)
            · exact absurd c10 (by omega)
            ·
              refine z_aload_n hX dX1_falls_64 65 rfl (i := 3) rfl 3 rfl ?_
              refine z_getfN hX fX1_121 hM.2.2.2.1.o dX1_falls_65 68 rfl (x := .int (fs_nf N tk cp sh fc A H K ((x1_falls_l29 N tk cp sh fc A H K (x9_fill6_a_f (fun _ => 0) 2000, x1_calm_res_sold, x1_calm_res_fallen fc) j1).2.1) ((x1_falls_l29 N tk cp sh fc A H K (x9_fill6_a_f (fun _ => 0) 2000, x1_calm_res_sold, x1_calm_res_fallen fc) j1).2.2))) rfl ?_
              refine z_iload hX dX1_falls_68 70 rfl 5 rfl ?_
              refine z_callSNp hX cwX1_139 (w := .int (if x0_has (fs_nf N tk cp sh fc A H K ((x1_falls_l29 N tk cp sh fc A H K (x9_fill6_a_f (fun _ => 0) 2000, x1_calm_res_sold, x1_calm_res_fallen fc) j1).2.1) ((x1_falls_l29 N tk cp sh fc A H K (x9_fill6_a_f (fun _ => 0) 2000, x1_calm_res_sold, x1_calm_res_fallen fc) j1).2.2)) (nI j6) then 1 else 0 : Int32)) (met_X0_has hG (fs_nf N tk cp sh fc A H K ((x1_falls_l29 N tk cp sh fc A H K (x9_fill6_a_f (fun _ => 0) 2000, x1_calm_res_sold, x1_calm_res_fallen fc) j1).2.1) ((x1_falls_l29 N tk cp sh fc A H K (x9_fill6_a_f (fun _ => 0) 2000, x1_calm_res_sold, x1_calm_res_fallen fc) j1).2.2)) (nI j6)) dX1_falls_70 73 rfl rfl rfl (Nat.le_of_ble_eq_true rfl) (by decide) ⟨by omega, by omega⟩ ?_
              have J12 : ∀ G : zHG, zTw g G q t B N tk cp sh fc (x1_rounds_gn N tk cp sh fc x1_calm_res_sold (x1_calm_res_fallen fc) A H K) ∧ zAr G a2 (na2, 0) (zca g 0) 6 (if x0_has (fs_nf N tk cp sh fc A H K ((x1_falls_l29 N tk cp sh fc A H K (x9_fill6_a_f (fun _ => 0) 2000, x1_calm_res_sold, x1_calm_res_fallen fc) j1).2.1) ((x1_falls_l29 N tk cp sh fc A H K (x9_fill6_a_f (fun _ => 0) 2000, x1_calm_res_sold, x1_calm_res_fallen fc) j1).2.2)) (nI j6) then upd (x1_falls_l55 N tk cp sh fc A H K j1 (x1_falls_l29 N tk cp sh fc A H K (x9_fill6_a_f (fun _ => 0) 2000, x1_calm_res_sold, x1_calm_res_fallen fc) j1) ((x1_falls_l29 N tk cp sh fc A H K (x9_fill6_a_f (fun _ => 0) 2000, x1_calm_res_sold, x1_calm_res_fallen fc) j1).1) j6) j6 (if (nI (1 + j1)) < ((x1_falls_l55 N tk cp sh fc A H K j1 (x1_falls_l29 N tk cp sh fc A H K (x9_fill6_a_f (fun _ => 0) 2000, x1_calm_res_sold, x1_calm_res_fallen fc) j1) ((x1_falls_l29 N tk cp sh fc A H K (x9_fill6_a_f (fun _ => 0) 2000, x1_calm_res_sold, x1_calm_res_fallen fc) j1).1) j6) j6) then (nI (1 + j1)) else ((x1_falls_l55 N tk cp sh fc A H K j1 (x1_falls_l29 N tk cp sh fc A H K (x9_fill6_a_f (fun _ => 0) 2000, x1_calm_res_sold, x1_calm_res_fallen fc) j1) ((x1_falls_l29 N tk cp sh fc A H K (x9_fill6_a_f (fun _ => 0) 2000, x1_calm_res_sold, x1_calm_res_fallen fc) j1).1) j6) j6) : Int32) else x1_falls_l55 N tk cp sh fc A H K j1 (x1_falls_l29 N tk cp sh fc A H K (x9_fill6_a_f (fun _ => 0) 2000, x1_calm_res_sold, x1_calm_res_fallen fc) j1) ((x1_falls_l29 N tk cp sh fc A H K (x9_fill6_a_f (fun _ => 0) 2000, x1_calm_res_sold, x1_calm_res_fallen fc) j1).1) j6) ∧ zSt g G (ns14, 0) s14 bs14 x1_calm_res_sold (x1_calm_res_fallen fc) ∧ zSt g G (ns22, 0) s22 bs22 (fs_ns N tk cp sh fc A H K ((x1_falls_l29 N tk cp sh fc A H K (x9_fill6_a_f (fun _ => 0) 2000, x1_calm_res_sold, x1_calm_res_fallen fc) j1).2.1) ((x1_falls_l29 N tk cp sh fc A H K (x9_fill6_a_f (fun _ => 0) 2000, x1_calm_res_sold, x1_calm_res_fallen fc) j1).2.2)) (fs_nf N tk cp sh fc A H K ((x1_falls_l29 N tk cp sh fc A H K (x9_fill6_a_f (fun _ => 0) 2000, x1_calm_res_sold, x1_calm_res_fallen fc) j1).2.1) ((x1_falls_l29 N tk cp sh fc A H K (x9_fill6_a_f (fun _ => 0) 2000, x1_calm_res_sold, x1_calm_res_fallen fc) j1).2.2)) ∧ zFrK [(q, 0), (q, 1), (q, 2)] G0 G → ZW g X 8 28 G 89 [(0, .ref t), (1, .ref a2), (2, .int (nI (fs_gone N tk cp sh fc A H K (x1_calm_res_sold, (x1_calm_res_fallen fc)) zForever))), (3, .ref s22), (4, .int (nI (1 + j1))), (5, .int (nI j6))] [] := by
                intro G hM
                refine z_iinc hX dX1_falls_89 92 rfl 5 rfl (w := nI (j6 + 1)) (nI_1 j6) (Nat.le_of_ble_eq_true rfl) rfl (L' := [(0, .ref t), (1, .ref a2), (2, .int (nI (fs_gone N tk cp sh fc A H K (x1_calm_res_sold, (x1_calm_res_fallen fc)) zForever))), (3, .ref s22), (4, .int (nI (1 + j1))), (5, .int (nI (j6 + 1)))]) rfl ?_
                refine z_goto hX dX1_falls_92 (tgt := 55) (by decide) ?_
                exact ih (j6 + 1) (by omega) _ hM
              refine z_if_eqP hX (x0_has (fs_nf N tk cp sh fc A H K ((x1_falls_l29 N tk cp sh fc A H K (x9_fill6_a_f (fun _ => 0) 2000, x1_calm_res_sold, x1_calm_res_fallen fc) j1).2.1) ((x1_falls_l29 N tk cp sh fc A H K (x9_fill6_a_f (fun _ => 0) 2000, x1_calm_res_sold, x1_calm_res_fallen fc) j1).2.2)) (nI j6)) dX1_falls_73 76 rfl (tgt := 89) (by decide) (fun c11 => ?_) (fun c11 => ?_)
              ·
                exact z_eqL rfl rfl (J12 _ (by first | (simpa only [if_neg c11] using hM) | ((try simp only [if_neg c11]); exact hM)))
              ·
                refine z_aload_n hX dX1_falls_76 77 rfl (i := 1) rfl 1 rfl ?_
                refine z_iload hX dX1_falls_77 79 rfl 5 rfl ?_
                refine z_aload_n hX dX1_falls_79 80 rfl (i := 1) rfl 1 rfl ?_
                refine z_iload hX dX1_falls_80 82 rfl 5 rfl ?_
                refine z_ialdF hX hM.2.1 (j := j6) (by omega) (by decide) dX1_falls_82 83 rfl (w := (x1_falls_l55 N tk cp sh fc A H K j1 (x1_falls_l29 N tk cp sh fc A H K (x9_fill6_a_f (fun _ => 0) 2000, x1_calm_res_sold, x1_calm_res_fallen fc) j1) ((x1_falls_l29 N tk cp sh fc A H K (x9_fill6_a_f (fun _ => 0) 2000, x1_calm_res_sold, x1_calm_res_fallen fc) j1).1) j6) j6) rfl ?_
                refine z_iload hX dX1_falls_83 85 rfl 4 rfl ?_
                refine z_mmin hX q589 q408 q113 q409 dX1_falls_85 88 rfl (by decide) (Nat.le_of_ble_eq_true rfl) (by omega) (by omega) (w := (if (nI (1 + j1)) < ((x1_falls_l55 N tk cp sh fc A H K j1 (x1_falls_l29 N tk cp sh fc A H K (x9_fill6_a_f (fun _ => 0) 2000, x1_calm_res_sold, x1_calm_res_fallen fc) j1) ((x1_falls_l29 N tk cp sh fc A H K (x9_fill6_a_f (fun _ => 0) 2000, x1_calm_res_sold, x1_calm_res_fallen fc) j1).1) j6) j6) then (nI (1 + j1)) else ((x1_falls_l55 N tk cp sh fc A H K j1 (x1_falls_l29 N tk cp sh fc A H K (x9_fill6_a_f (fun _ => 0) 2000, x1_calm_res_sold, x1_calm_res_fallen fc) j1) ((x1_falls_l29 N tk cp sh fc A H K (x9_fill6_a_f (fun _ => 0) 2000, x1_calm_res_sold, x1_calm_res_fallen fc) j1).1) j6) j6) : Int32)) (by first | rfl | (split <;> split <;> first | rfl | omega | (exfalso; simp_all))) ?_
                refine v_ast hX hM.2.1 j6 (by omega) (by decide) dX1_falls_88 89 rfl (fun G hw hf => ?_)
                have hfK : zFrK [(na2, 0)] _ G := hf.toK (zky0 na2 0 (by decide)) (show ¬ 0 = 9 from by decide)
                have hM : zTw g G q t B N tk cp sh fc (x1_rounds_gn N tk cp sh fc x1_calm_res_sold (x1_calm_res_fallen fc) A H K) ∧ zAr G a2 (na2, 0) (zca g 0) 6 (upd (x1_falls_l55 N tk cp sh fc A H K j1 (x1_falls_l29 N tk cp sh fc A H K (x9_fill6_a_f (fun _ => 0) 2000, x1_calm_res_sold, x1_calm_res_fallen fc) j1) ((x1_falls_l29 N tk cp sh fc A H K (x9_fill6_a_f (fun _ => 0) 2000, x1_calm_res_sold, x1_calm_res_fallen fc) j1).1) j6) j6 (if (nI (1 + j1)) < ((x1_falls_l55 N tk cp sh fc A H K j1 (x1_falls_l29 N tk cp sh fc A H K (x9_fill6_a_f (fun _ => 0) 2000, x1_calm_res_sold, x1_calm_res_fallen fc) j1) ((x1_falls_l29 N tk cp sh fc A H K (x9_fill6_a_f (fun _ => 0) 2000, x1_calm_res_sold, x1_calm_res_fallen fc) j1).1) j6) j6) then (nI (1 + j1)) else ((x1_falls_l55 N tk cp sh fc A H K j1 (x1_falls_l29 N tk cp sh fc A H K (x9_fill6_a_f (fun _ => 0) 2000, x1_calm_res_sold, x1_calm_res_fallen fc) j1) ((x1_falls_l29 N tk cp sh fc A H K (x9_fill6_a_f (fun _ => 0) 2000, x1_calm_res_sold, x1_calm_res_fallen fc) j1).1) j6) j6) : Int32)) ∧ zSt g G (ns14, 0) s14 bs14 x1_calm_res_sold (x1_calm_res_fallen fc) ∧ zSt g G (ns22, 0) s22 bs22 (fs_ns N tk cp sh fc A H K ((x1_falls_l29 N tk cp sh fc A H K (x9_fill6_a_f (fun _ => 0) 2000, x1_calm_res_sold, x1_calm_res_fallen fc) j1).2.1) ((x1_falls_l29 N tk cp sh fc A H K (x9_fill6_a_f (fun _ => 0) 2000, x1_calm_res_sold, x1_calm_res_fallen fc) j1).2.2)) (fs_nf N tk cp sh fc A H K ((x1_falls_l29 N tk cp sh fc A H K (x9_fill6_a_f (fun _ => 0) 2000, x1_calm_res_sold, x1_calm_res_fallen fc) j1).2.1) ((x1_falls_l29 N tk cp sh fc A H K (x9_fill6_a_f (fun _ => 0) 2000, x1_calm_res_sold, x1_calm_res_fallen fc) j1).2.2)) ∧ zFrK [(q, 0), (q, 1), (q, 2)] G0 G := ⟨hM.1.kp (hfK.kp (zni1 ne_t_a2_0 zni0)) (hfK.kp (zni1 ne_t_a2_1 zni0)) (hfK.kp (zni1 ne_t_a2_2 zni0)), hw, hM.2.2.1.kp (hfK.kp (zni1 (Ne.symm ne_a2_s14) zni0)), hM.2.2.2.1.kp (hfK.kp (zni1 (Ne.symm ne_a2_s22) zni0)), hM.2.2.2.2.stepF (hf.toK (zky0 na2 0 (by decide)) (show ¬ 0 = 9 from by decide)) fn_a2⟩
                exact z_eqL rfl rfl (J12 _ (by first | (simpa only [if_pos c11] using hM) | ((try simp only [if_pos c11]); exact hM)))
        have hM : zTw g G q t B N tk cp sh fc (x1_rounds_gn N tk cp sh fc x1_calm_res_sold (x1_calm_res_fallen fc) A H K) ∧ zAr G a2 (na2, 0) (zca g 0) 6 (x1_falls_l55 N tk cp sh fc A H K j1 (x1_falls_l29 N tk cp sh fc A H K (x9_fill6_a_f (fun _ => 0) 2000, x1_calm_res_sold, x1_calm_res_fallen fc) j1) ((x1_falls_l29 N tk cp sh fc A H K (x9_fill6_a_f (fun _ => 0) 2000, x1_calm_res_sold, x1_calm_res_fallen fc) j1).1) 0) ∧ zSt g G (ns14, 0) s14 bs14 x1_calm_res_sold (x1_calm_res_fallen fc) ∧ zSt g G (ns22, 0) s22 bs22 (fs_ns N tk cp sh fc A H K ((x1_falls_l29 N tk cp sh fc A H K (x9_fill6_a_f (fun _ => 0) 2000, x1_calm_res_sold, x1_calm_res_fallen fc) j1).2.1) ((x1_falls_l29 N tk cp sh fc A H K (x9_fill6_a_f (fun _ => 0) 2000, x1_calm_res_sold, x1_calm_res_fallen fc) j1).2.2)) (fs_nf N tk cp sh fc A H K ((x1_falls_l29 N tk cp sh fc A H K (x9_fill6_a_f (fun _ => 0) 2000, x1_calm_res_sold, x1_calm_res_fallen fc) j1).2.1) ((x1_falls_l29 N tk cp sh fc A H K (x9_fill6_a_f (fun _ => 0) 2000, x1_calm_res_sold, x1_calm_res_fallen fc) j1).2.2)) ∧ zFrK [(q, 0), (q, 1), (q, 2)] G0 G := by simpa only [x1_falls_l55_0] using hM
        exact Lp8 H 0 (by omega) _ hM
  have hM : zTw g G q t B N tk cp sh fc (x1_rounds_gn N tk cp sh fc x1_calm_res_sold (x1_calm_res_fallen fc) A H K) ∧ zAr G a2 (na2, 0) (zca g 0) 6 ((x1_falls_l29 N tk cp sh fc A H K (x9_fill6_a_f (fun _ => 0) 2000, x1_calm_res_sold, x1_calm_res_fallen fc) 0).1) ∧ zSt g G (ns14, 0) s14 bs14 x1_calm_res_sold (x1_calm_res_fallen fc) ∧ zSt g G (ns22, 0) s22 bs22 ((x1_falls_l29 N tk cp sh fc A H K (x9_fill6_a_f (fun _ => 0) 2000, x1_calm_res_sold, x1_calm_res_fallen fc) 0).2.1) ((x1_falls_l29 N tk cp sh fc A H K (x9_fill6_a_f (fun _ => 0) 2000, x1_calm_res_sold, x1_calm_res_fallen fc) 0).2.2) ∧ zFrK [(q, 0), (q, 1), (q, 2)] G0 G := by simpa only [x1_falls_l29_0] using hM
  exact Lp3 (fs_gone N tk cp sh fc A H K (x1_calm_res_sold, (x1_calm_res_fallen fc)) zForever) 0 (by omega) _ hM
noncomputable def x0_fellIn (N : Nat → Int32) (tk : Nat → Int32) (cp : Nat → Int32) (sh : Nat → Int32) (fc : Int32) (A : Nat) (H : Nat) (K : Nat → Nat) (house : Int32) : Int32 := (if zin house H then (if ((x1_falls_res_f N tk cp sh fc A H K) house.toNatClampNeg) = 2000 then (-2) else (x1_falls_res_f N tk cp sh fc A H K) house.toNatClampNeg : Int32) else (-1) : Int32)
noncomputable def x0_fellIn_gn (N : Nat → Int32) (tk : Nat → Int32) (cp : Nat → Int32) (sh : Nat → Int32) (fc : Int32) (gn : Int32) (A : Nat) (H : Nat) (K : Nat → Nat) (house : Int32) : Int32 := if zin house H then x1_falls_gn N tk cp sh fc A H K else gn
set_option maxHeartbeats 4000000 in
theorem met_X0_fellIn {g : Zg} (hG : zG g) {G0 : zHG} {xq x dq tp : Nat} {bg : Value} {bl tpd : Int32} {q t : Nat} {B : Nat → Nat → Nat} {N tk cp sh : Nat → Int32} {fc gn : Int32} (hx : zFx G0 xq x t dq tp bg bl tpd) (ht : zTw g G0 q t B N tk cp sh fc gn) {A H : Nat} {K : Nat → Nat} (hN : zWf N A H K) (ne_x_t_00 : (xq, 0) ≠ (q, 0)) (ne_x_t_01 : (xq, 0) ≠ (q, 1)) (ne_x_t_02 : (xq, 0) ≠ (q, 2)) (house : Int32)  : ZM g yX0_fellIn cX0_fellIn 3 (some FieldType.int) 10 8 28 [.ref x, .int house] G0 (fun r G' => r = some (.int (x0_fellIn N tk cp sh fc A H K house)) ∧ (zFx G' xq x t dq tp bg bl tpd ∧ zTw g G' q t B N tk cp sh fc (x0_fellIn_gn N tk cp sh fc gn A H K house) ∧ zFrK [(q, 0), (q, 1), (q, 2)] G0 G')) := by
  unfold x0_fellIn x0_fellIn_gn
  have hN2 := hN.2.1
  have hN4 := hN.2.2.2.1
  refine ZM_mk hG (by decide) (Nat.le_of_ble_eq_true rfl) ?_
  intro X hX hname hQ
  obtain ⟨G, hGe⟩ : ∃ z, z = G0 := ⟨_, rfl⟩
  have hM : zFx G xq x t dq tp bg bl tpd ∧ zTw g G q t B N tk cp sh fc gn ∧ zFrK [(q, 0), (q, 1), (q, 2)] G0 G := by rw [hGe]; exact ⟨hx, ht, zFrK.rf⟩
  show ZW g X 0 0 G0 0 [(0, .ref x), (1, .int house)] []
  rw [← hGe]
  refine z_aload_n hX dX0_fellIn_0 1 rfl (i := 0) rfl 0 rfl ?_
  refine z_getf hX fX0_10 hM.1.o dX0_fellIn_1 4 rfl (x := .ref t) rfl ?_
  refine z_iload_n hX dX0_fellIn_4 5 rfl (i := 1) rfl 1 rfl ?_
  obtain ⟨opr, os1, os2, of1, of2, ob1, ob2, hT9, h19, h29⟩ := id hM.2.1
  refine z_callVp hX cwX0_72 (w := .int (if zin house H then 1 else 0 : Int32)) (met_X1_isHouse hG hT9 hN house) hT9.o rfl rfl dX0_fellIn_5 8 rfl rfl rfl (Nat.le_of_ble_eq_true rfl) (by decide) ⟨Nat.zero_le _, Nat.zero_le _⟩ ?_
  refine z_if_neP hX (zin house H) dX0_fellIn_8 11 rfl (tgt := 13) (by decide) (fun c1 => ?_) (fun c1 => ?_)
  ·
    have e_house := zin_eq c1
    have l_house := zin_lt c1
    refine z_eqL (L' := [(0, .ref x), (1, .int (nI house.toNatClampNeg))]) (st' := []) (by rw [← e_house]) (by first | rfl | rw [← e_house]) ?_
    refine z_aload_n hX dX0_fellIn_13 14 rfl (i := 0) rfl 0 rfl ?_
    refine z_getf hX fX0_10 hM.1.o dX0_fellIn_14 17 rfl (x := .ref t) rfl ?_
    obtain ⟨fs9, ho9⟩ := hM.2.1.o
    refine z_callV hX cwX0_249 (met_X1_falls hG hM.2.1 hN) ho9 rfl rfl dX0_fellIn_17 20 rfl rfl rfl (Nat.le_of_ble_eq_true rfl) (by decide) ⟨by omega, by omega⟩ (fun r G hP => ?_)
    obtain ⟨ns17, s17, hzs17, rfl, hP⟩ := hP
    have ne_x_s17 : (xq, 0) ≠ (ns17, 0) := hzs17.neT hM.1.o
    obtain ⟨fs9, ho9⟩ := hM.2.1.o
    have ne_t_s17_0 : (q, 0) ≠ (ns17, 0) := hzs17.neT ho9
    have ne_t_s17_1 : (q, 1) ≠ (ns17, 0) := hzs17.neT ho9
    have ne_t_s17_2 : (q, 2) ≠ (ns17, 0) := hzs17.neT ho9
    have nq_t_s17 : q ≠ ns17 := hzs17 _ _ _ ho9
    have fn_s17 : zFresh G0 ns17 := hzs17.of' hM.2.2 (zfm1 nq_t_s17 (zfm1 nq_t_s17 (zfm1 nq_t_s17 zfm0)))
    have hM : zFx G xq x t dq tp bg bl tpd ∧ zTw g G q t B N tk cp sh fc (x1_falls_gn N tk cp sh fc A H K) ∧ zAr G s17 (ns17, 0) (zca g 0) 6 (x1_falls_res_f N tk cp sh fc A H K) ∧ zFrK [(q, 0), (q, 1), (q, 2)] G0 G := ⟨hM.1.kp (hP.2.2.kp (zni1 ne_x_t_00 (zni1 ne_x_t_01 (zni1 ne_x_t_02 zni0)))), hP.1, hP.2.1, hM.2.2.stepL hP.2.2 (zml1 (Or.inl List.mem_cons_self) (zml1 (Or.inl (List.mem_cons_of_mem _ List.mem_cons_self)) (zml1 (Or.inl (List.mem_cons_of_mem _ (List.mem_cons_of_mem _ List.mem_cons_self))) zml0)))⟩
    show ZW g X 8 28 G 20 [(0, .ref x), (1, .int (nI house.toNatClampNeg))] [.ref s17]
    refine z_iload_n hX dX0_fellIn_20 21 rfl (i := 1) rfl 1 rfl ?_
    refine z_ialdF hX hM.2.2.1 (j := house.toNatClampNeg) (by omega) (by decide) dX0_fellIn_21 22 rfl (w := (x1_falls_res_f N tk cp sh fc A H K) house.toNatClampNeg) rfl ?_
    refine z_istore_n hX dX0_fellIn_22 23 rfl (i := 2) rfl (Nat.le_of_ble_eq_true rfl) rfl (L' := [(0, .ref x), (1, .int (nI house.toNatClampNeg)), (2, .int ((x1_falls_res_f N tk cp sh fc A H K) house.toNatClampNeg))]) rfl ?_
    refine z_iload_n hX dX0_fellIn_23 24 rfl (i := 2) rfl 2 rfl ?_
    refine z_sipush hX dX0_fellIn_24 27 rfl zks_2000 ?_
    have J3 : ZW g X 8 28 G 36 [(0, .ref x), (1, .int (nI house.toNatClampNeg)), (2, .int ((x1_falls_res_f N tk cp sh fc A H K) house.toNatClampNeg))] [.int (if ((x1_falls_res_f N tk cp sh fc A H K) house.toNatClampNeg) = 2000 then (-2) else (x1_falls_res_f N tk cp sh fc A H K) house.toNatClampNeg : Int32)] := by
      have hM : zFx G xq x t dq tp bg bl tpd ∧ zTw g G q t B N tk cp sh fc (x1_falls_gn N tk cp sh fc A H K) ∧ zFrK [(q, 0), (q, 1), (q, 2)] G0 G := ⟨hM.1, hM.2.1, hM.2.2.2⟩
      exact z_iret hX hQ (by omega) (by omega) rfl dX0_fellIn_36 ⟨(by first | (simp only [if_pos c1] <;> rfl; done) | grind), (by first | (simpa only [if_pos c1] using hM) | ((try simp only [if_pos c1]); exact hM))⟩
    refine z_icmp_ne hX dX0_fellIn_27 30 rfl (tgt := 35) (by decide) (fun c2 => ?_) (fun c2 => ?_)
    ·
      refine z_iload_n hX dX0_fellIn_35 36 rfl (i := 2) rfl 2 rfl ?_
      exact z_eqL rfl (by first | (simp only [if_pos c1, if_neg c2] <;> rfl; done) | grind) J3
    ·
      refine z_bipush hX dX0_fellIn_30 32 rfl zkb_m2 ?_
      refine z_goto hX dX0_fellIn_32 (tgt := 36) (by decide) ?_
      exact z_eqL rfl (by first | (simp only [if_pos c1, if_pos c2] <;> rfl; done) | grind) J3
  ·
    refine z_iconst hX dX0_fellIn_11 12 rfl zki_m1 ?_
    exact z_iret hX hQ (by omega) (by omega) rfl dX0_fellIn_12 ⟨(by first | (simp only [if_neg c1] <;> rfl; done) | grind), (by first | (simpa only [if_neg c1] using hM) | ((try simp only [if_neg c1]); exact hM))⟩
