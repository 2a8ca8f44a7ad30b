set_option maxRecDepth 100000
noncomputable def x0_mood (N : Nat → Int32) (tk : Nat → Int32) (cp : Nat → Int32) (sh : Nat → Int32) (fc : Int32) (A : Nat) (H : Nat) (K : Nat → Nat) : Int64 := (x1_mood N tk cp sh fc A H K).toInt64
noncomputable def x0_mood_gn (N : Nat → Int32) (tk : Nat → Int32) (cp : Nat → Int32) (sh : Nat → Int32) (fc : Int32) (A : Nat) (H : Nat) (K : Nat → Nat) : Int32 := x1_mood_gn N tk cp sh fc A H K
set_option maxHeartbeats 4000000 in
theorem met_X0_mood {g : Zg} (hG : zG g) {G0 : zHG} {xq x dq tp : Nat} {bg : Value} {bl tpd : Int32} {q t : Nat} {B : Nat → Nat → Nat} {N tk cp sh : Nat → Int32} {fc gn : Int32} (hx : zFx G0 xq x t dq tp bg bl tpd) (ht : zTw g G0 q t B N tk cp sh fc gn) {A H : Nat} {K : Nat → Nat} (hN : zWf N A H K) (ne_x_t_00 : (xq, 0) ≠ (q, 0)) (ne_x_t_01 : (xq, 0) ≠ (q, 1)) (ne_x_t_02 : (xq, 0) ≠ (q, 2)) (af0 : ∀ qj1 : Nat, qj1 < fs_gone N tk cp sh fc A H K (x1_calm_res_sold, (x1_calm_res_fallen fc)) zForever → vf_n64 (FP.dmul ((x1_mood_l20 N tk cp sh fc A H K (FP.dconst1, x1_calm_res_sold, x1_calm_res_fallen fc) qj1).1) 4602678819172646912)) (af1 : ∀ qj1 : Nat, qj1 < fs_gone N tk cp sh fc A H K (x1_calm_res_sold, (x1_calm_res_fallen fc)) zForever → vf_n32 (FP.fdiv (x1_index_l16 N tk sh (fs_ns N tk cp sh fc A H K ((x1_mood_l20 N tk cp sh fc A H K (FP.dconst1, x1_calm_res_sold, x1_calm_res_fallen fc) qj1).2.1) ((x1_mood_l20 N tk cp sh fc A H K (FP.dconst1, x1_calm_res_sold, x1_calm_res_fallen fc) qj1).2.2)) K FP.fconst0 A) (FP.i2f (x1_heldAll N A)))) (af2 : ∀ qj1 : Nat, qj1 < fs_gone N tk cp sh fc A H K (x1_calm_res_sold, (x1_calm_res_fallen fc)) zForever → ∀ qqj2 : Nat, qqj2 < A → ¬ ((x1_calmPrice N sh K qqj2) = 0) → vf_n32 (FP.fdiv (FP.i2f (x1_price N tk sh (fs_ns N tk cp sh fc A H K ((x1_mood_l20 N tk cp sh fc A H K (FP.dconst1, x1_calm_res_sold, x1_calm_res_fallen fc) qj1).2.1) ((x1_mood_l20 N tk cp sh fc A H K (FP.dconst1, x1_calm_res_sold, x1_calm_res_fallen fc) qj1).2.2)) K qqj2)) (FP.i2f (x1_calmPrice N sh K qqj2)))) (af3 : ∀ qj1 : Nat, qj1 < fs_gone N tk cp sh fc A H K (x1_calm_res_sold, (x1_calm_res_fallen fc)) zForever → ∀ qqj2 : Nat, qqj2 < A → vf_n32 (FP.fmul (x1_ratio N tk sh (fs_ns N tk cp sh fc A H K ((x1_mood_l20 N tk cp sh fc A H K (FP.dconst1, x1_calm_res_sold, x1_calm_res_fallen fc) qj1).2.1) ((x1_mood_l20 N tk cp sh fc A H K (FP.dconst1, x1_calm_res_sold, x1_calm_res_fallen fc) qj1).2.2)) K qqj2) (FP.i2f (x1_held N qqj2)))) (af4 : ∀ qj1 : Nat, qj1 < fs_gone N tk cp sh fc A H K (x1_calm_res_sold, (x1_calm_res_fallen fc)) zForever → ∀ qqj2 : Nat, qqj2 < A → vf_n32 (FP.fadd (x1_index_l16 N tk sh (fs_ns N tk cp sh fc A H K ((x1_mood_l20 N tk cp sh fc A H K (FP.dconst1, x1_calm_res_sold, x1_calm_res_fallen fc) qj1).2.1) ((x1_mood_l20 N tk cp sh fc A H K (FP.dconst1, x1_calm_res_sold, x1_calm_res_fallen fc) qj1).2.2)) K FP.fconst0 qqj2) (FP.fmul (x1_ratio N tk sh (fs_ns N tk cp sh fc A H K ((x1_mood_l20 N tk cp sh fc A H K (FP.dconst1, x1_calm_res_sold, x1_calm_res_fallen fc) qj1).2.1) ((x1_mood_l20 N tk cp sh fc A H K (FP.dconst1, x1_calm_res_sold, x1_calm_res_fallen fc) qj1).2.2)) K qqj2) (FP.i2f (x1_held N qqj2))))) (af5 : ∀ qj1 : Nat, qj1 < fs_gone N tk cp sh fc A H K (x1_calm_res_sold, (x1_calm_res_fallen fc)) zForever → vf_n64 (FP.f2d (x1_index N tk sh (fs_ns N tk cp sh fc A H K ((x1_mood_l20 N tk cp sh fc A H K (FP.dconst1, x1_calm_res_sold, x1_calm_res_fallen fc) qj1).2.1) ((x1_mood_l20 N tk cp sh fc A H K (FP.dconst1, x1_calm_res_sold, x1_calm_res_fallen fc) qj1).2.2)) A K))) (af6 : ∀ qj1 : Nat, qj1 < fs_gone N tk cp sh fc A H K (x1_calm_res_sold, (x1_calm_res_fallen fc)) zForever → vf_n64 (FP.dmul (FP.f2d (x1_index N tk sh (fs_ns N tk cp sh fc A H K ((x1_mood_l20 N tk cp sh fc A H K (FP.dconst1, x1_calm_res_sold, x1_calm_res_fallen fc) qj1).2.1) ((x1_mood_l20 N tk cp sh fc A H K (FP.dconst1, x1_calm_res_sold, x1_calm_res_fallen fc) qj1).2.2)) A K)) 4602678819172646912)) (af7 : ∀ qj1 : Nat, qj1 < fs_gone N tk cp sh fc A H K (x1_calm_res_sold, (x1_calm_res_fallen fc)) zForever → vf_n64 (FP.dadd (FP.dmul ((x1_mood_l20 N tk cp sh fc A H K (FP.dconst1, x1_calm_res_sold, x1_calm_res_fallen fc) qj1).1) 4602678819172646912) (FP.dmul (FP.f2d (x1_index N tk sh (fs_ns N tk cp sh fc A H K ((x1_mood_l20 N tk cp sh fc A H K (FP.dconst1, x1_calm_res_sold, x1_calm_res_fallen fc) qj1).2.1) ((x1_mood_l20 N tk cp sh fc A H K (FP.dconst1, x1_calm_res_sold, x1_calm_res_fallen fc) qj1).2.2)) A K)) 4602678819172646912))) (af8 : FP.dcmp (x1_mood N tk cp sh fc A H K) (x1_mood N tk cp sh fc A H K) = some .eq) : ZM g yX0_mood cX0_mood 1 (some FieldType.long) 10 7 22 [.ref x] G0 (fun r G' => r = some (.long (x0_mood N tk cp sh fc A H K)) ∧ (zFx G' xq x t dq tp bg bl tpd ∧ zTw g G' q t B N tk cp sh fc (x0_mood_gn N tk cp sh fc A H K) ∧ zFrK [(q, 0), (q, 1), (q, 2)] G0 G')) := by
  unfold x0_mood x0_mood_gn
  have hN2 := hN.2.1
  have hN4 := hN.2.2.2.1
  refine ZM_mk hG (by decide) (Nat.le_of_ble_eq_true rfl) ?_
  intro X hX hname hQ
  obtain ⟨G, hGe⟩ : ∃ z, z = G0 := ⟨_, rfl⟩
  have hM : zFx G xq x t dq tp bg bl tpd ∧ zTw g G q t B N tk cp sh fc gn ∧ zFrK [(q, 0), (q, 1), (q, 2)] G0 G := by rw [hGe]; exact ⟨hx, ht, zFrK.rf⟩
  show ZW g X 0 0 G0 0 [(0, .ref x)] []
  rw [← hGe]
  refine z_aload_n hX dX0_mood_0 1 rfl (i := 0) rfl 0 rfl ?_
  refine z_getf hX fX0_10 hM.1.o dX0_mood_1 4 rfl (x := .ref t) rfl ?_
  obtain ⟨fs9, ho9⟩ := hM.2.1.o
  refine z_callV hX cwX0_286 (met_X1_mood hG hM.2.1 hN af0 af1 af2 af3 af4 af5 af6 af7) ho9 rfl rfl dX0_mood_4 7 rfl rfl rfl (Nat.le_of_ble_eq_true rfl) (by decide) ⟨by omega, by omega⟩ (fun r G hP => ?_)
  obtain ⟨rfl, hP⟩ := hP
  have hM : zFx G xq x t dq tp bg bl tpd ∧ zTw g G q t B N tk cp sh fc (x1_mood_gn N tk cp sh fc A H K) ∧ zFrK [(q, 0), (q, 1), (q, 2)] G0 G := ⟨hM.1.kp (hP.2.kp (zni1 ne_x_t_00 (zni1 ne_x_t_01 (zni1 ne_x_t_02 zni0)))), hP.1, hM.2.2.stepL hP.2 (zml1 (Or.inl List.mem_cons_self) (zml1 (Or.inl (List.mem_cons_of_mem _ List.mem_cons_self)) (zml1 (Or.inl (List.mem_cons_of_mem _ (List.mem_cons_of_mem _ List.mem_cons_self))) zml0)))⟩
  show ZW g X 7 22 G 7 [(0, .ref x)] [.double (x1_mood N tk cp sh fc A H K)]
  refine z_callSp hX cwX0_290 (w := .long ((x1_mood N tk cp sh fc A H K).toInt64)) (met_J17_doubleToLongBits hG (x1_mood N tk cp sh fc A H K) af8) dX0_mood_7 10 rfl rfl rfl (Nat.le_of_ble_eq_true rfl) (by decide) ⟨by omega, by omega⟩ ?_
  exact z_lret hX hQ (by omega) (by omega) rfl dX0_mood_10 ⟨rfl, hM⟩
noncomputable def x0_hundredths (N : Nat → Int32) (tk : Nat → Int32) (cp : Nat → Int32) (sh : Nat → Int32) (fc : Int32) (A : Nat) (H : Nat) (K : Nat → Nat) : Int32 := FP.d2i (FP.dmul (x1_mood N tk cp sh fc A H K) 4636737291354636288)
noncomputable def x0_hundredths_gn (N : Nat → Int32) (tk : Nat → Int32) (cp : Nat → Int32) (sh : Nat → Int32) (fc : Int32) (A : Nat) (H : Nat) (K : Nat → Nat) : Int32 := x1_mood_gn N tk cp sh fc A H K
set_option maxHeartbeats 4000000 in
theorem met_X0_hundredths {g : Zg} (hG : zG g) {G0 : zHG} {xq x dq tp : Nat} {bg : Value} {bl tpd : Int32} {q t : Nat} {B : Nat → Nat → Nat} {N tk cp sh : Nat → Int32} {fc gn : Int32} (hx : zFx G0 xq x t dq tp bg bl tpd) (ht : zTw g G0 q t B N tk cp sh fc gn) {A H : Nat} {K : Nat → Nat} (hN : zWf N A H K) (ne_x_t_00 : (xq, 0) ≠ (q, 0)) (ne_x_t_01 : (xq, 0) ≠ (q, 1)) (ne_x_t_02 : (xq, 0) ≠ (q, 2)) (af0 : ∀ qj1 : Nat, qj1 < fs_gone N tk cp sh fc A H K (x1_calm_res_sold, (x1_calm_res_fallen fc)) zForever → vf_n64 (FP.dmul ((x1_mood_l20 N tk cp sh fc A H K (FP.dconst1, x1_calm_res_sold, x1_calm_res_fallen fc) qj1).1) 4602678819172646912)) (af1 : ∀ qj1 : Nat, qj1 < fs_gone N tk cp sh fc A H K (x1_calm_res_sold, (x1_calm_res_fallen fc)) zForever → vf_n32 (FP.fdiv (x1_index_l16 N tk sh (fs_ns N tk cp sh fc A H K ((x1_mood_l20 N tk cp sh fc A H K (FP.dconst1, x1_calm_res_sold, x1_calm_res_fallen fc) qj1).2.1) ((x1_mood_l20 N tk cp sh fc A H K (FP.dconst1, x1_calm_res_sold, x1_calm_res_fallen fc) qj1).2.2)) K FP.fconst0 A) (FP.i2f (x1_heldAll N A)))) (af2 : ∀ qj1 : Nat, qj1 < fs_gone N tk cp sh fc A H K (x1_calm_res_sold, (x1_calm_res_fallen fc)) zForever → ∀ qqj2 : Nat, qqj2 < A → ¬ ((x1_calmPrice N sh K qqj2) = 0) → vf_n32 (FP.fdiv (FP.i2f (x1_price N tk sh (fs_ns N tk cp sh fc A H K ((x1_mood_l20 N tk cp sh fc A H K (FP.dconst1, x1_calm_res_sold, x1_calm_res_fallen fc) qj1).2.1) ((x1_mood_l20 N tk cp sh fc A H K (FP.dconst1, x1_calm_res_sold, x1_calm_res_fallen fc) qj1).2.2)) K qqj2)) (FP.i2f (x1_calmPrice N sh K qqj2)))) (af3 : ∀ qj1 : Nat, qj1 < fs_gone N tk cp sh fc A H K (x1_calm_res_sold, (x1_calm_res_fallen fc)) zForever → ∀ qqj2 : Nat, qqj2 < A → vf_n32 (FP.fmul (x1_ratio N tk sh (fs_ns N tk cp sh fc A H K ((x1_mood_l20 N tk cp sh fc A H K (FP.dconst1, x1_calm_res_sold, x1_calm_res_fallen fc) qj1).2.1) ((x1_mood_l20 N tk cp sh fc A H K (FP.dconst1, x1_calm_res_sold, x1_calm_res_fallen fc) qj1).2.2)) K qqj2) (FP.i2f (x1_held N qqj2)))) (af4 : ∀ qj1 : Nat, qj1 < fs_gone N tk cp sh fc A H K (x1_calm_res_sold, (x1_calm_res_fallen fc)) zForever → ∀ qqj2 : Nat, qqj2 < A → vf_n32 (FP.fadd (x1_index_l16 N tk sh (fs_ns N tk cp sh fc A H K ((x1_mood_l20 N tk cp sh fc A H K (FP.dconst1, x1_calm_res_sold, x1_calm_res_fallen fc) qj1).2.1) ((x1_mood_l20 N tk cp sh fc A H K (FP.dconst1, x1_calm_res_sold, x1_calm_res_fallen fc) qj1).2.2)) K FP.fconst0 qqj2) (FP.fmul (x1_ratio N tk sh (fs_ns N tk cp sh fc A H K ((x1_mood_l20 N tk cp sh fc A H K (FP.dconst1, x1_calm_res_sold, x1_calm_res_fallen fc) qj1).2.1) ((x1_mood_l20 N tk cp sh fc A H K (FP.dconst1, x1_calm_res_sold, x1_calm_res_fallen fc) qj1).2.2)) K qqj2) (FP.i2f (x1_held N qqj2))))) (af5 : ∀ qj1 : Nat, qj1 < fs_gone N tk cp sh fc A H K (x1_calm_res_sold, (x1_calm_res_fallen fc)) zForever → vf_n64 (FP.f2d (x1_index N tk sh (fs_ns N tk cp sh fc A H K ((x1_mood_l20 N tk cp sh fc A H K (FP.dconst1, x1_calm_res_sold, x1_calm_res_fallen fc) qj1).2.1) ((x1_mood_l20 N tk cp sh fc A H K (FP.dconst1, x1_calm_res_sold, x1_calm_res_fallen fc) qj1).2.2)) A K))) (af6 : ∀ qj1 : Nat, qj1 < fs_gone N tk cp sh fc A H K (x1_calm_res_sold, (x1_calm_res_fallen fc)) zForever → vf_n64 (FP.dmul (FP.f2d (x1_index N tk sh (fs_ns N tk cp sh fc A H K ((x1_mood_l20 N tk cp sh fc A H K (FP.dconst1, x1_calm_res_sold, x1_calm_res_fallen fc) qj1).2.1) ((x1_mood_l20 N tk cp sh fc A H K (FP.dconst1, x1_calm_res_sold, x1_calm_res_fallen fc) qj1).2.2)) A K)) 4602678819172646912)) (af7 : ∀ qj1 : Nat, qj1 < fs_gone N tk cp sh fc A H K (x1_calm_res_sold, (x1_calm_res_fallen fc)) zForever → vf_n64 (FP.dadd (FP.dmul ((x1_mood_l20 N tk cp sh fc A H K (FP.dconst1, x1_calm_res_sold, x1_calm_res_fallen fc) qj1).1) 4602678819172646912) (FP.dmul (FP.f2d (x1_index N tk sh (fs_ns N tk cp sh fc A H K ((x1_mood_l20 N tk cp sh fc A H K (FP.dconst1, x1_calm_res_sold, x1_calm_res_fallen fc) qj1).2.1) ((x1_mood_l20 N tk cp sh fc A H K (FP.dconst1, x1_calm_res_sold, x1_calm_res_fallen fc) qj1).2.2)) A K)) 4602678819172646912))) (af8 : vf_n64 (FP.dmul (x1_mood N tk cp sh fc A H K) 4636737291354636288)) : ZM g yX0_hundredths cX0_hundredths 1 (some FieldType.int) 10 7 22 [.ref x] G0 (fun r G' => r = some (.int (x0_hundredths N tk cp sh fc A H K)) ∧ (zFx G' xq x t dq tp bg bl tpd ∧ zTw g G' q t B N tk cp sh fc (x0_hundredths_gn N tk cp sh fc A H K) ∧ zFrK [(q, 0), (q, 1), (q, 2)] G0 G')) := by
  unfold x0_hundredths x0_hundredths_gn
  have hN2 := hN.2.1
  have hN4 := hN.2.2.2.1
  refine ZM_mk hG (by decide) (Nat.le_of_ble_eq_true rfl) ?_
  intro X hX hname hQ
  obtain ⟨G, hGe⟩ : ∃ z, z = G0 := ⟨_, rfl⟩
  have hM : zFx G xq x t dq tp bg bl tpd ∧ zTw g G q t B N tk cp sh fc gn ∧ zFrK [(q, 0), (q, 1), (q, 2)] G0 G := by rw [hGe]; exact ⟨hx, ht, zFrK.rf⟩
  show ZW g X 0 0 G0 0 [(0, .ref x)] []
  rw [← hGe]
  refine z_aload_n hX dX0_hundredths_0 1 rfl (i := 0) rfl 0 rfl ?_
  refine z_getf hX fX0_10 hM.1.o dX0_hundredths_1 4 rfl (x := .ref t) rfl ?_
  obtain ⟨fs9, ho9⟩ := hM.2.1.o
  refine z_callV hX cwX0_286 (met_X1_mood hG hM.2.1 hN af0 af1 af2 af3 af4 af5 af6 af7) ho9 rfl rfl dX0_hundredths_4 7 rfl rfl rfl (Nat.le_of_ble_eq_true rfl) (by decide) ⟨by omega, by omega⟩ (fun r G hP => ?_)
  obtain ⟨rfl, hP⟩ := hP
  have hM : zFx G xq x t dq tp bg bl tpd ∧ zTw g G q t B N tk cp sh fc (x1_mood_gn N tk cp sh fc A H K) ∧ zFrK [(q, 0), (q, 1), (q, 2)] G0 G := ⟨hM.1.kp (hP.2.kp (zni1 ne_x_t_00 (zni1 ne_x_t_01 (zni1 ne_x_t_02 zni0)))), hP.1, hM.2.2.stepL hP.2 (zml1 (Or.inl List.mem_cons_self) (zml1 (Or.inl (List.mem_cons_of_mem _ List.mem_cons_self)) (zml1 (Or.inl (List.mem_cons_of_mem _ (List.mem_cons_of_mem _ List.mem_cons_self))) zml0)))⟩
  show ZW g X 7 22 G 7 [(0, .ref x)] [.double (x1_mood N tk cp sh fc A H K)]
  refine z_ldc2d hX q1071 dX0_hundredths_7 10 rfl ?_
  refine z_dmul hX dX0_hundredths_10 11 rfl af8 ?_
  refine z_d2i hX dX0_hundredths_11 12 rfl ?_
  exact z_iret hX hQ (by omega) (by omega) rfl dX0_hundredths_12 ⟨rfl, hM⟩
def x0_loanMany_l40 (N : Nat → Int32) (j1 : Nat) (ini : Int32) (k : Nat) : Int32 := zfold k (fun j3 cj3 => cj3 + (if ¬ ((N (64 + (6 * j1) + j3)) ≤ 0) then 1 else 0 : Int32)) ini
theorem x0_loanMany_l40_0 (N : Nat → Int32) (j1 : Nat) (ini : Int32) : x0_loanMany_l40 N j1 ini 0 = ini := (zfold_0 _ _).trans (Eq.refl _)
def x0_loanMany_l16 (N : Nat → Int32) (ini : Int32) (k : Nat) : Int32 := zfold k (fun j1 cj1 => x0_loanMany_l40 N j1 cj1 6) ini
theorem x0_loanMany_l16_0 (N : Nat → Int32) (ini : Int32) : x0_loanMany_l16 N ini 0 = ini := (zfold_0 _ _).trans (Eq.refl _)
def x0_loanMany (N : Nat → Int32) : Int32 := x0_loanMany_l16 N 0 6
set_option maxHeartbeats 4000000 in
theorem met_X0_loanMany {g : Zg} (hG : zG g) {G : zHG} {xq x dq tp : Nat} {bg : Value} {bl tpd : Int32} {q t : Nat} {B : Nat → Nat → Nat} {N tk cp sh : Nat → Int32} {fc gn : Int32} (hx : zFx G xq x t dq tp bg bl tpd) (ht : zTw g G q t B N tk cp sh fc gn)  : ZM g yX0_loanMany cX0_loanMany 10 (some FieldType.int) 1 0 0 [.ref x] G (zRet (some (.int (x0_loanMany N))) G) := by
  unfold x0_loanMany
  refine ZM_mk hG (by decide) (Nat.le_of_ble_eq_true rfl) ?_
  intro X hX hname hQ
  show ZW g X 0 0 G 0 [(0, .ref x)] []
  refine z_iconst hX dX0_loanMany_0 1 rfl zki_0 ?_
  refine z_istore_n hX dX0_loanMany_1 2 rfl (i := 1) rfl (Nat.le_of_ble_eq_true rfl) rfl (L' := [(0, .ref x), (1, .int 0)]) rfl ?_
  refine z_aload_n hX dX0_loanMany_2 3 rfl (i := 0) rfl 0 rfl ?_
  refine z_getf hX fX0_10 hx.o dX0_loanMany_3 6 rfl (x := .ref t) rfl ?_
  obtain ⟨opr, os1, os2, of1, of2, ob1, ob2, hT9, h19, h29⟩ := id ht
  refine z_getfN hX fX0_92 hT9.o dX0_loanMany_6 9 rfl (x := .ref (B 4 0)) rfl ?_
  refine z_astore_n hX dX0_loanMany_9 10 rfl (i := 2) rfl (Nat.le_of_ble_eq_true rfl) rfl (L' := [(0, .ref x), (1, .int 0), (2, .ref (B 4 0))]) rfl ?_
  refine z_aload_n hX dX0_loanMany_10 11 rfl (i := 2) rfl 2 rfl ?_
  obtain ⟨opr, os1, os2, of1, of2, ob1, ob2, hT9, h19, h29⟩ := id ht
  refine z_alenR hX 2 rfl hT9.l0 dX0_loanMany_11 12 rfl ?_
  refine z_istore_n hX dX0_loanMany_12 13 rfl (i := 3) rfl (Nat.le_of_ble_eq_true rfl) rfl (L' := [(0, .ref x), (1, .int 0), (2, .ref (B 4 0)), (3, .int (nI 6))]) rfl ?_
  refine z_iconst hX dX0_loanMany_13 14 rfl zki_0 ?_
  refine z_istore hX dX0_loanMany_14 16 rfl (Nat.le_of_ble_eq_true rfl) rfl (L' := [(0, .ref x), (1, .int 0), (2, .ref (B 4 0)), (3, .int (nI 6)), (4, .int 0)]) rfl ?_
  have E2 : ZW g X 0 0 G 79 [(0, .ref x), (1, .int (x0_loanMany_l16 N 0 6)), (2, .ref (B 4 0)), (3, .int (nI 6)), (4, .int (nI 6))] [] := by
    refine z_iload_n hX dX0_loanMany_79 80 rfl (i := 1) rfl 1 rfl ?_
    exact z_iret hX hQ (Nat.zero_le _) (Nat.zero_le _) rfl dX0_loanMany_80 ⟨rfl, rfl⟩
  have Lp3 : ∀ k j1 : Nat, j1 + k = 6 → ZW g X 0 0 G 16 [(0, .ref x), (1, .int (x0_loanMany_l16 N 0 j1)), (2, .ref (B 4 0)), (3, .int (nI 6)), (4, .int (nI j1))] [] := by
    intro k
    induction k with
    | zero =>
      intro j1 hj1
      rw [show j1 = 6 from by omega]
      refine z_iload hX dX0_loanMany_16 18 rfl 4 rfl ?_
      refine z_iload_n hX dX0_loanMany_18 19 rfl (i := 3) rfl 3 rfl ?_
      refine z_icmp_geN hX 6 6 (by omega) (by omega) dX0_loanMany_19 22 rfl (tgt := 79) (by decide) (fun c4 => ?_) (fun c4 => ?_)
      · exact E2
      · exact absurd c4 (by omega)
    | succ k ih =>
      intro j1 hj1
      refine z_iload hX dX0_loanMany_16 18 rfl 4 rfl ?_
      refine z_iload_n hX dX0_loanMany_18 19 rfl (i := 3) rfl 3 rfl ?_
      refine z_icmp_geN hX j1 6 (by omega) (by omega) dX0_loanMany_19 22 rfl (tgt := 79) (by decide) (fun c5 => ?_) (fun c5 => ?_)
      · exact absurd c5 (by omega)
      ·
        refine z_aload_n hX dX0_loanMany_22 23 rfl (i := 2) rfl 2 rfl ?_
        refine z_iload hX dX0_loanMany_23 25 rfl 4 rfl ?_
        obtain ⟨opr, os1, os2, of1, of2, ob1, ob2, hT9, h19, h29⟩ := id ht
        refine z_aaldF hX 2 rfl rfl hT9.l0 (j := j1) (by omega) (by decide) rfl dX0_loanMany_25 26 rfl ?_
        refine z_astore hX dX0_loanMany_26 28 rfl (Nat.le_of_ble_eq_true rfl) rfl (L' := [(0, .ref x), (1, .int (x0_loanMany_l16 N 0 j1)), (2, .ref (B 4 0)), (3, .int (nI 6)), (4, .int (nI j1)), (5, .ref (B 14 j1))]) rfl ?_
        refine z_aload hX dX0_loanMany_28 30 rfl 5 rfl ?_
        refine z_astore hX dX0_loanMany_30 32 rfl (Nat.le_of_ble_eq_true rfl) rfl (L' := [(0, .ref x), (1, .int (x0_loanMany_l16 N 0 j1)), (2, .ref (B 4 0)), (3, .int (nI 6)), (4, .int (nI j1)), (5, .ref (B 14 j1)), (6, .ref (B 14 j1))]) rfl ?_
        refine z_aload hX dX0_loanMany_32 34 rfl 6 rfl ?_
        obtain ⟨opr, os1, os2, of1, of2, ob1, ob2, hT9, h19, h29⟩ := id ht
        refine z_alenF hX (hT9.fl j1 (by omega)) dX0_loanMany_34 35 rfl ?_
        refine z_istore hX dX0_loanMany_35 37 rfl (Nat.le_of_ble_eq_true rfl) rfl (L' := [(0, .ref x), (1, .int (x0_loanMany_l16 N 0 j1)), (2, .ref (B 4 0)), (3, .int (nI 6)), (4, .int (nI j1)), (5, .ref (B 14 j1)), (6, .ref (B 14 j1)), (7, .int (nI 6))]) rfl ?_
        refine z_iconst hX dX0_loanMany_37 38 rfl zki_0 ?_
        refine z_istore hX dX0_loanMany_38 40 rfl (Nat.le_of_ble_eq_true rfl) rfl (L' := [(0, .ref x), (1, .int (x0_loanMany_l16 N 0 j1)), (2, .ref (B 4 0)), (3, .int (nI 6)), (4, .int (nI j1)), (5, .ref (B 14 j1)), (6, .ref (B 14 j1)), (7, .int (nI 6)), (8, .int 0)]) rfl ?_
        have E7 : ZW g X 0 0 G 73 [(0, .ref x), (1, .int (x0_loanMany_l40 N j1 (x0_loanMany_l16 N 0 j1) 6)), (2, .ref (B 4 0)), (3, .int (nI 6)), (4, .int (nI j1)), (5, .ref (B 14 j1)), (6, .ref (B 14 j1)), (7, .int (nI 6)), (8, .int (nI 6))] [] := by
          refine z_iinc hX dX0_loanMany_73 76 rfl 4 rfl (w := nI (j1 + 1)) (nI_1 j1) (Nat.le_of_ble_eq_true rfl) rfl (L' := [(0, .ref x), (1, .int (x0_loanMany_l40 N j1 (x0_loanMany_l16 N 0 j1) 6)), (2, .ref (B 4 0)), (3, .int (nI 6)), (4, .int (nI (j1 + 1))), (5, .ref (B 14 j1)), (6, .ref (B 14 j1)), (7, .int (nI 6)), (8, .int (nI 6))]) rfl ?_
          refine z_goto hX dX0_loanMany_76 (tgt := 16) (by decide) ?_
          refine z_sub [0, 1, 2, 3, 4] rfl ?_
          exact ih (j1 + 1) (by omega)
        have Lp8 : ∀ k j6 : Nat, j6 + k = 6 → ZW g X 0 0 G 40 [(0, .ref x), (1, .int (x0_loanMany_l40 N j1 (x0_loanMany_l16 N 0 j1) j6)), (2, .ref (B 4 0)), (3, .int (nI 6)), (4, .int (nI j1)), (5, .ref (B 14 j1)), (6, .ref (B 14 j1)), (7, .int (nI 6)), (8, .int (nI j6))] [] := by
          intro k
          induction k with
          | zero =>
            intro j6 hj6
            rw [show j6 = 6 from by omega]
            refine z_iload hX dX0_loanMany_40 42 rfl 8 rfl ?_
            refine z_iload hX dX0_loanMany_42 44 rfl 7 rfl ?_
            refine z_icmp_geN hX 6 6 (by omega) (by omega) dX0_loanMany_44 47 rfl (tgt := 73) (by decide) (fun c9 => ?_) (fun c9 => ?_)
            · exact E7
            · exact absurd c9 (by omega)
          | succ k ih =>
            intro j6 hj6
            refine z_iload hX dX0_loanMany_40 42 rfl 8 rfl ?_
            refine z_iload hX dX0_loanMany_42 44 rfl 7 rfl ?_
            refine z_icmp_geN hX j6 6 (by omega) (by omega) dX0_loanMany_44 47 rfl (tgt := 73) (by decide) (fun c10 => ?_) (fun c10 => ?_)
            · exact absurd c10 (by omega)
            ·
              refine z_aload hX dX0_loanMany_47 49 rfl 6 rfl ?_
              refine z_iload hX dX0_loanMany_49 51 rfl 8 rfl ?_
              obtain ⟨opr, os1, os2, of1, of2, ob1, ob2, hT9, h19, h29⟩ := id ht
              refine z_ialdF hX (hT9.fl j1 (by omega)) (j := j6) (by omega) (by decide) dX0_loanMany_51 52 rfl (w := N (64 + (6 * j1) + j6)) rfl ?_
              refine z_istore hX dX0_loanMany_52 54 rfl (Nat.le_of_ble_eq_true rfl) rfl (L' := [(0, .ref x), (1, .int (x0_loanMany_l40 N j1 (x0_loanMany_l16 N 0 j1) j6)), (2, .ref (B 4 0)), (3, .int (nI 6)), (4, .int (nI j1)), (5, .ref (B 14 j1)), (6, .ref (B 14 j1)), (7, .int (nI 6)), (8, .int (nI j6)), (9, .int (N (64 + (6 * j1) + j6)))]) rfl ?_
              refine z_iload_n hX dX0_loanMany_54 55 rfl (i := 1) rfl 1 rfl ?_
              refine z_iload hX dX0_loanMany_55 57 rfl 9 rfl ?_
              have J12 : ZW g X 0 0 G 65 [(0, .ref x), (1, .int (x0_loanMany_l40 N j1 (x0_loanMany_l16 N 0 j1) j6)), (2, .ref (B 4 0)), (3, .int (nI 6)), (4, .int (nI j1)), (5, .ref (B 14 j1)), (6, .ref (B 14 j1)), (7, .int (nI 6)), (8, .int (nI j6)), (9, .int (N (64 + (6 * j1) + j6)))] [.int (if ¬ ((N (64 + (6 * j1) + j6)) ≤ 0) then 1 else 0 : Int32), .int (x0_loanMany_l40 N j1 (x0_loanMany_l16 N 0 j1) j6)] := by
                refine z_iadd hX dX0_loanMany_65 66 rfl (w := (x0_loanMany_l40 N j1 (x0_loanMany_l16 N 0 j1) j6) + (if ¬ ((N (64 + (6 * j1) + j6)) ≤ 0) then 1 else 0 : Int32)) rfl ?_
                refine z_istore_n hX dX0_loanMany_66 67 rfl (i := 1) rfl (Nat.le_of_ble_eq_true rfl) rfl (L' := [(0, .ref x), (1, .int ((x0_loanMany_l40 N j1 (x0_loanMany_l16 N 0 j1) j6) + (if ¬ ((N (64 + (6 * j1) + j6)) ≤ 0) then 1 else 0 : Int32))), (2, .ref (B 4 0)), (3, .int (nI 6)), (4, .int (nI j1)), (5, .ref (B 14 j1)), (6, .ref (B 14 j1)), (7, .int (nI 6)), (8, .int (nI j6)), (9, .int (N (64 + (6 * j1) + j6)))]) rfl ?_
                refine z_iinc hX dX0_loanMany_67 70 rfl 8 rfl (w := nI (j6 + 1)) (nI_1 j6) (Nat.le_of_ble_eq_true rfl) rfl (L' := [(0, .ref x), (1, .int ((x0_loanMany_l40 N j1 (x0_loanMany_l16 N 0 j1) j6) + (if ¬ ((N (64 + (6 * j1) + j6)) ≤ 0) then 1 else 0 : Int32))), (2, .ref (B 4 0)), (3, .int (nI 6)), (4, .int (nI j1)), (5, .ref (B 14 j1)), (6, .ref (B 14 j1)), (7, .int (nI 6)), (8, .int (nI (j6 + 1))), (9, .int (N (64 + (6 * j1) + j6)))]) rfl ?_
                refine z_goto hX dX0_loanMany_70 (tgt := 40) (by decide) ?_
                refine z_sub [0, 1, 2, 3, 4, 5, 6, 7, 8] rfl ?_
                exact ih (j6 + 1) (by omega)
              refine z_if_le hX dX0_loanMany_57 60 rfl (tgt := 64) (by decide) (fun c11 => ?_) (fun c11 => ?_)
              ·
                refine z_iconst hX dX0_loanMany_64 65 rfl zki_0 ?_
                exact z_eqL rfl (by first | (simp only [if_pos c11] <;> rfl; done) | grind) J12
              ·
                refine z_iconst hX dX0_loanMany_60 61 rfl zki_1 ?_
                refine z_goto hX dX0_loanMany_61 (tgt := 65) (by decide) ?_
                exact z_eqL rfl (by first | (simp only [if_neg c11] <;> rfl; done) | grind) J12
        exact Lp8 6 0 (by omega)
  exact Lp3 6 0 (by omega)
noncomputable def x0_ranked_l27 (N : Nat → Int32) (tk : Nat → Int32) (cp : Nat → Int32) (sh : Nat → Int32) (fc : Int32) (A : Nat) (H : Nat) (K : Nat → Nat) (j1 : Nat) (ini : Int32) (k : Nat) : Int32 := zfold k (fun j2 cj2 => (if ((x1_falls_res_f N tk cp sh fc A H K) j2) < ((x1_falls_res_f N tk cp sh fc A H K) j1) then cj2 + 1 else (if ((x1_falls_res_f N tk cp sh fc A H K) j2) = ((x1_falls_res_f N tk cp sh fc A H K) j1) then (if j1 ≤ j2 then cj2 else cj2 + 1 : Int32) else cj2 : Int32) : Int32)) ini
theorem x0_ranked_l27_0 (N : Nat → Int32) (tk : Nat → Int32) (cp : Nat → Int32) (sh : Nat → Int32) (fc : Int32) (A : Nat) (H : Nat) (K : Nat → Nat) (j1 : Nat) (ini : Int32) : x0_ranked_l27 N tk cp sh fc A H K j1 ini 0 = ini := (zfold_0 _ _).trans (Eq.refl _)
noncomputable def x0_ranked_l10 (N : Nat → Int32) (tk : Nat → Int32) (cp : Nat → Int32) (sh : Nat → Int32) (fc : Int32) (A : Nat) (H : Nat) (K : Nat → Nat) (kk : Int32) : Nat := zfirst (fun j1 => (x0_ranked_l27 N tk cp sh fc A H K j1 0 H) = kk) H
noncomputable def x0_ranked (N : Nat → Int32) (tk : Nat → Int32) (cp : Nat → Int32) (sh : Nat → Int32) (fc : Int32) (A : Nat) (H : Nat) (K : Nat → Nat) (kk : Int32) : Int32 := (if (x0_ranked_l10 N tk cp sh fc A H K kk) < H then nI (x0_ranked_l10 N tk cp sh fc A H K kk) else (-1) : Int32)
noncomputable def x0_ranked_gn (N : Nat → Int32) (tk : Nat → Int32) (cp : Nat → Int32) (sh : Nat → Int32) (fc : Int32) (A : Nat) (H : Nat) (K : Nat → Nat) (kk : Int32) : Int32 := x1_falls_gn N tk cp sh fc A H K
set_option maxHeartbeats 4000000 in
theorem met_X0_ranked {g : Zg} (hG : zG g) {G0 : zHG} {xq x dq tp : Nat} {bg : Value} {bl tpd : Int32} {q t : Nat} {B : Nat → Nat → Nat} {N tk cp sh : Nat → Int32} {fc gn : Int32} (hx : zFx G0 xq x t dq tp bg bl tpd) (ht : zTw g G0 q t B N tk cp sh fc gn) {A H : Nat} {K : Nat → Nat} (hN : zWf N A H K) (ne_x_t_00 : (xq, 0) ≠ (q, 0)) (ne_x_t_01 : (xq, 0) ≠ (q, 1)) (ne_x_t_02 : (xq, 0) ≠ (q, 2)) (kk : Int32)  : ZM g yX0_ranked cX0_ranked 6 (some FieldType.int) 10 8 28 [.ref x, .int kk] G0 (fun r G' => r = some (.int (x0_ranked N tk cp sh fc A H K kk)) ∧ (zFx G' xq x t dq tp bg bl tpd ∧ zTw g G' q t B N tk cp sh fc (x0_ranked_gn N tk cp sh fc A H K kk) ∧ zFrK [(q, 0), (q, 1), (q, 2)] G0 G')) := by
  unfold x0_ranked x0_ranked_gn
  have hN2 := hN.2.1
  have hN4 := hN.2.2.2.1
  refine ZM_mk hG (by decide) (Nat.le_of_ble_eq_true rfl) ?_
  intro X hX hname hQ
  obtain ⟨G, hGe⟩ : ∃ z, z = G0 := ⟨_, rfl⟩
  have hM : zFx G xq x t dq tp bg bl tpd ∧ zTw g G q t B N tk cp sh fc gn ∧ zFrK [(q, 0), (q, 1), (q, 2)] G0 G := by rw [hGe]; exact ⟨hx, ht, zFrK.rf⟩
  show ZW g X 0 0 G0 0 [(0, .ref x), (1, .int kk)] []
  rw [← hGe]
  refine z_aload_n hX dX0_ranked_0 1 rfl (i := 0) rfl 0 rfl ?_
  refine z_getf hX fX0_10 hM.1.o dX0_ranked_1 4 rfl (x := .ref t) rfl ?_
  obtain ⟨fs9, ho9⟩ := hM.2.1.o
  refine z_callV hX cwX0_249 (met_X1_falls hG hM.2.1 hN) ho9 rfl rfl dX0_ranked_4 7 rfl rfl rfl (Nat.le_of_ble_eq_true rfl) (by decide) ⟨by omega, by omega⟩ (fun r G hP => ?_)
  obtain ⟨ns4, s4, hzs4, rfl, hP⟩ := hP
  have ne_x_s4 : (xq, 0) ≠ (ns4, 0) := hzs4.neT hM.1.o
  obtain ⟨fs9, ho9⟩ := hM.2.1.o
  have ne_t_s4_0 : (q, 0) ≠ (ns4, 0) := hzs4.neT ho9
  have ne_t_s4_1 : (q, 1) ≠ (ns4, 0) := hzs4.neT ho9
  have ne_t_s4_2 : (q, 2) ≠ (ns4, 0) := hzs4.neT ho9
  have nq_t_s4 : q ≠ ns4 := hzs4 _ _ _ ho9
  have fn_s4 : zFresh G0 ns4 := hzs4.of' hM.2.2 (zfm1 nq_t_s4 (zfm1 nq_t_s4 (zfm1 nq_t_s4 zfm0)))
  have hM : zFx G xq x t dq tp bg bl tpd ∧ zTw g G q t B N tk cp sh fc (x1_falls_gn N tk cp sh fc A H K) ∧ zAr G s4 (ns4, 0) (zca g 0) 6 (x1_falls_res_f N tk cp sh fc A H K) ∧ zFrK [(q, 0), (q, 1), (q, 2)] G0 G := ⟨hM.1.kp (hP.2.2.kp (zni1 ne_x_t_00 (zni1 ne_x_t_01 (zni1 ne_x_t_02 zni0)))), hP.1, hP.2.1, hM.2.2.stepL hP.2.2 (zml1 (Or.inl List.mem_cons_self) (zml1 (Or.inl (List.mem_cons_of_mem _ List.mem_cons_self)) (zml1 (Or.inl (List.mem_cons_of_mem _ (List.mem_cons_of_mem _ List.mem_cons_self))) zml0)))⟩
  show ZW g X 8 28 G 7 [(0, .ref x), (1, .int kk)] [.ref s4]
  refine z_astore_n hX dX0_ranked_7 8 rfl (i := 2) rfl (Nat.le_of_ble_eq_true rfl) rfl (L' := [(0, .ref x), (1, .int kk), (2, .ref s4)]) rfl ?_
  refine z_iconst hX dX0_ranked_8 9 rfl zki_0 ?_
  refine z_istore_n hX dX0_ranked_9 10 rfl (i := 3) rfl (Nat.le_of_ble_eq_true rfl) rfl (L' := [(0, .ref x), (1, .int kk), (2, .ref s4), (3, .int 0)]) rfl ?_
  have f2 : (x0_ranked_l10 N tk cp sh fc A H K kk) ≤ H := zfirst_le _ _
  have f3 : ∀ i : Nat, i < (x0_ranked_l10 N tk cp sh fc A H K kk) → ¬ ((x0_ranked_l27 N tk cp sh fc A H K i 0 H) = kk) := zfirst_no _ _
  have f4 : (x0_ranked_l10 N tk cp sh fc A H K kk) < H → (x0_ranked_l27 N tk cp sh fc A H K (x0_ranked_l10 N tk cp sh fc A H K kk) 0 H) = kk := zfirst_is _ _
  have Lp5 : ∀ k j1 : Nat, j1 + k = (x0_ranked_l10 N tk cp sh fc A H K kk) → ZW g X 8 28 G 10 [(0, .ref x), (1, .int kk), (2, .ref s4), (3, .int (nI j1))] [] := by
    intro k
    induction k with
    | zero =>
      intro j1 hj1
      rw [show j1 = (x0_ranked_l10 N tk cp sh fc A H K kk) from by omega]
      by_cases hl6 : (x0_ranked_l10 N tk cp sh fc A H K kk) < H
      ·
        refine z_iload_n hX dX0_ranked_10 11 rfl (i := 3) rfl 3 rfl ?_
        refine z_aload_n hX dX0_ranked_11 12 rfl (i := 0) rfl 0 rfl ?_
        refine z_getf hX fX0_10 hM.1.o dX0_ranked_12 15 rfl (x := .ref t) rfl ?_
        obtain ⟨opr, os1, os2, of1, of2, ob1, ob2, hT9, h19, h29⟩ := id hM.2.1
        refine z_getfN hX fX0_64 hT9.o dX0_ranked_15 18 rfl (x := .int (nI H)) (congrArg (fun z => some (Value.int z)) hN.2.2.1) ?_
        refine z_icmp_geN hX (x0_ranked_l10 N tk cp sh fc A H K kk) H (by omega) (by omega) dX0_ranked_18 21 rfl (tgt := 88) (by decide) (fun c7 => ?_) (fun c7 => ?_)
        · exact absurd c7 (by omega)
        ·
          refine z_iconst hX dX0_ranked_21 22 rfl zki_0 ?_
          refine z_istore hX dX0_ranked_22 24 rfl (Nat.le_of_ble_eq_true rfl) rfl (L' := [(0, .ref x), (1, .int kk), (2, .ref s4), (3, .int (nI (x0_ranked_l10 N tk cp sh fc A H K kk))), (4, .int 0)]) rfl ?_
          refine z_iconst hX dX0_ranked_24 25 rfl zki_0 ?_
          refine z_istore hX dX0_ranked_25 27 rfl (Nat.le_of_ble_eq_true rfl) rfl (L' := [(0, .ref x), (1, .int kk), (2, .ref s4), (3, .int (nI (x0_ranked_l10 N tk cp sh fc A H K kk))), (4, .int 0), (5, .int 0)]) rfl ?_
          have E9 : ZW g X 8 28 G 74 [(0, .ref x), (1, .int kk), (2, .ref s4), (3, .int (nI (x0_ranked_l10 N tk cp sh fc A H K kk))), (4, .int (x0_ranked_l27 N tk cp sh fc A H K (x0_ranked_l10 N tk cp sh fc A H K kk) 0 H)), (5, .int (nI H))] [] := by
            refine z_iload hX dX0_ranked_74 76 rfl 4 rfl ?_
            refine z_iload_n hX dX0_ranked_76 77 rfl (i := 1) rfl 1 rfl ?_
            refine z_icmp_ne hX dX0_ranked_77 80 rfl (tgt := 82) (by decide) (fun c11 => ?_) (fun c11 => ?_)
            · exact absurd (f4 hl6) c11
            ·
              refine z_iload_n hX dX0_ranked_80 81 rfl (i := 3) rfl 3 rfl ?_
              have hM : zFx G xq x t dq tp bg bl tpd ∧ zTw g G q t B N tk cp sh fc (x1_falls_gn N tk cp sh fc A H K) ∧ zFrK [(q, 0), (q, 1), (q, 2)] G0 G := ⟨hM.1, hM.2.1, hM.2.2.2⟩
              exact z_iret hX hQ (by omega) (by omega) rfl dX0_ranked_81 ⟨(by first | (simp only [if_pos hl6] <;> rfl; done) | grind), hM⟩
          have Lp10 : ∀ k j8 : Nat, j8 + k = H → ZW g X 8 28 G 27 [(0, .ref x), (1, .int kk), (2, .ref s4), (3, .int (nI (x0_ranked_l10 N tk cp sh fc A H K kk))), (4, .int (x0_ranked_l27 N tk cp sh fc A H K (x0_ranked_l10 N tk cp sh fc A H K kk) 0 j8)), (5, .int (nI j8))] [] := by
            intro k
            induction k with
            | zero =>
              intro j8 hj8
              rw [show j8 = H from by omega]
              refine z_iload hX dX0_ranked_27 29 rfl 5 rfl ?_
              refine z_aload_n hX dX0_ranked_29 30 rfl (i := 0) rfl 0 rfl ?_
              refine z_getf hX fX0_10 hM.1.o dX0_ranked_30 33 rfl (x := .ref t) rfl ?_
              obtain ⟨opr, os1, os2, of1, of2, ob1, ob2, hT9, h19, h29⟩ := id hM.2.1
              refine z_getfN hX fX0_64 hT9.o dX0_ranked_33 36 rfl (x := .int (nI H)) (congrArg (fun z => some (Value.int z)) hN.2.2.1) ?_
              refine z_icmp_geN hX H H (by omega) (by omega) dX0_ranked_36 39 rfl (tgt := 74) (by decide) (fun c12 => ?_) (fun c12 => ?_)
              · exact E9
              · exact absurd c12 (by omega)
            | succ k ih =>
              intro j8 hj8
              refine z_iload hX dX0_ranked_27 29 rfl 5 rfl ?_
              refine z_aload_n hX dX0_ranked_29 30 rfl (i := 0) rfl 0 rfl ?_
              refine z_getf hX fX0_10 hM.1.o dX0_ranked_30 33 rfl (x := .ref t) rfl ?_
              obtain ⟨opr, os1, os2, of1, of2, ob1, ob2, hT9, h19, h29⟩ := id hM.2.1
              refine z_getfN hX fX0_64 hT9.o dX0_ranked_33 36 rfl (x := .int (nI H)) (congrArg (fun z => some (Value.int z)) hN.2.2.1) ?_
              refine z_icmp_geN hX j8 H (by omega) (by omega) dX0_ranked_36 39 rfl (tgt := 74) (by decide) (fun c13 => ?_) (fun c13 => ?_)
              · exact absurd c13 (by omega)
              ·
                refine z_aload_n hX dX0_ranked_39 40 rfl (i := 2) rfl 2 rfl ?_
                refine z_iload hX dX0_ranked_40 42 rfl 5 rfl ?_
                refine z_ialdF hX hM.2.2.1 (j := j8) (by omega) (by decide) dX0_ranked_42 43 rfl (w := (x1_falls_res_f N tk cp sh fc A H K) j8) rfl ?_
                refine z_aload_n hX dX0_ranked_43 44 rfl (i := 2) rfl 2 rfl ?_
                refine z_iload_n hX dX0_ranked_44 45 rfl (i := 3) rfl 3 rfl ?_
                refine z_ialdF hX hM.2.2.1 (j := (x0_ranked_l10 N tk cp sh fc A H K kk)) (by omega) (by decide) dX0_ranked_45 46 rfl (w := (x1_falls_res_f N tk cp sh fc A H K) (x0_ranked_l10 N tk cp sh fc A H K kk)) rfl ?_
                have J15 : ZW g X 8 28 G 68 [(0, .ref x), (1, .int kk), (2, .ref s4), (3, .int (nI (x0_ranked_l10 N tk cp sh fc A H K kk))), (4, .int (if ((x1_falls_res_f N tk cp sh fc A H K) j8) < ((x1_falls_res_f N tk cp sh fc A H K) (x0_ranked_l10 N tk cp sh fc A H K kk)) then (x0_ranked_l27 N tk cp sh fc A H K (x0_ranked_l10 N tk cp sh fc A H K kk) 0 j8) + 1 else (if ((x1_falls_res_f N tk cp sh fc A H K) j8) = ((x1_falls_res_f N tk cp sh fc A H K) (x0_ranked_l10 N tk cp sh fc A H K kk)) then (if (x0_ranked_l10 N tk cp sh fc A H K kk) ≤ j8 then x0_ranked_l27 N tk cp sh fc A H K (x0_ranked_l10 N tk cp sh fc A H K kk) 0 j8 else (x0_ranked_l27 N tk cp sh fc A H K (x0_ranked_l10 N tk cp sh fc A H K kk) 0 j8) + 1 : Int32) else x0_ranked_l27 N tk cp sh fc A H K (x0_ranked_l10 N tk cp sh fc A H K kk) 0 j8 : Int32) : Int32)), (5, .int (nI j8))] [] := by
                  refine z_iinc hX dX0_ranked_68 71 rfl 5 rfl (w := nI (j8 + 1)) (nI_1 j8) (Nat.le_of_ble_eq_true rfl) rfl (L' := [(0, .ref x), (1, .int kk), (2, .ref s4), (3, .int (nI (x0_ranked_l10 N tk cp sh fc A H K kk))), (4, .int (if ((x1_falls_res_f N tk cp sh fc A H K) j8) < ((x1_falls_res_f N tk cp sh fc A H K) (x0_ranked_l10 N tk cp sh fc A H K kk)) then (x0_ranked_l27 N tk cp sh fc A H K (x0_ranked_l10 N tk cp sh fc A H K kk) 0 j8) + 1 else (if ((x1_falls_res_f N tk cp sh fc A H K) j8) = ((x1_falls_res_f N tk cp sh fc A H K) (x0_ranked_l10 N tk cp sh fc A H K kk)) then (if (x0_ranked_l10 N tk cp sh fc A H K kk) ≤ j8 then x0_ranked_l27 N tk cp sh fc A H K (x0_ranked_l10 N tk cp sh fc A H K kk) 0 j8 else (x0_ranked_l27 N tk cp sh fc A H K (x0_ranked_l10 N tk cp sh fc A H K kk) 0 j8) + 1 : Int32) else x0_ranked_l27 N tk cp sh fc A H K (x0_ranked_l10 N tk cp sh fc A H K kk) 0 j8 : Int32) : Int32)), (5, .int (nI (j8 + 1)))]) rfl ?_
                  refine z_goto hX dX0_ranked_71 (tgt := 27) (by decide) ?_
                  exact ih (j8 + 1) (by omega)
                refine z_icmp_lt hX dX0_ranked_46 49 rfl (tgt := 65) (by decide) (fun c14 => ?_) (fun c14 => ?_)
                ·
                  refine z_iinc hX dX0_ranked_65 68 rfl 4 rfl (w := (x0_ranked_l27 N tk cp sh fc A H K (x0_ranked_l10 N tk cp sh fc A H K kk) 0 j8) + 1) rfl (Nat.le_of_ble_eq_true rfl) rfl (L' := [(0, .ref x), (1, .int kk), (2, .ref s4), (3, .int (nI (x0_ranked_l10 N tk cp sh fc A H K kk))), (4, .int ((x0_ranked_l27 N tk cp sh fc A H K (x0_ranked_l10 N tk cp sh fc A H K kk) 0 j8) + 1)), (5, .int (nI j8))]) rfl ?_
                  exact z_eqL (by first | (simp only [if_pos hl6, if_pos c14] <;> rfl; done) | grind) rfl J15
                ·
                  refine z_aload_n hX dX0_ranked_49 50 rfl (i := 2) rfl 2 rfl ?_
                  refine z_iload hX dX0_ranked_50 52 rfl 5 rfl ?_
                  refine z_ialdF hX hM.2.2.1 (j := j8) (by omega) (by decide) dX0_ranked_52 53 rfl (w := (x1_falls_res_f N tk cp sh fc A H K) j8) rfl ?_
                  refine z_aload_n hX dX0_ranked_53 54 rfl (i := 2) rfl 2 rfl ?_
                  refine z_iload_n hX dX0_ranked_54 55 rfl (i := 3) rfl 3 rfl ?_
                  refine z_ialdF hX hM.2.2.1 (j := (x0_ranked_l10 N tk cp sh fc A H K kk)) (by omega) (by decide) dX0_ranked_55 56 rfl (w := (x1_falls_res_f N tk cp sh fc A H K) (x0_ranked_l10 N tk cp sh fc A H K kk)) rfl ?_
                  refine z_icmp_ne hX dX0_ranked_56 59 rfl (tgt := 68) (by decide) (fun c16 => ?_) (fun c16 => ?_)
                  ·
                    exact z_eqL (by first | (simp only [if_pos hl6, if_neg c14, if_neg c16] <;> rfl; done) | grind) rfl J15
                  ·
                    refine z_iload hX dX0_ranked_59 61 rfl 5 rfl ?_
                    refine z_iload_n hX dX0_ranked_61 62 rfl (i := 3) rfl 3 rfl ?_
                    refine z_icmp_geN hX j8 (x0_ranked_l10 N tk cp sh fc A H K kk) (by omega) (by omega) dX0_ranked_62 65 rfl (tgt := 68) (by decide) (fun c17 => ?_) (fun c17 => ?_)
                    ·
                      exact z_eqL (by first | (simp only [if_pos hl6, if_neg c14, if_pos c16, if_pos c17] <;> rfl; done) | grind) rfl J15
                    ·
                      refine z_iinc hX dX0_ranked_65 68 rfl 4 rfl (w := (x0_ranked_l27 N tk cp sh fc A H K (x0_ranked_l10 N tk cp sh fc A H K kk) 0 j8) + 1) rfl (Nat.le_of_ble_eq_true rfl) rfl (L' := [(0, .ref x), (1, .int kk), (2, .ref s4), (3, .int (nI (x0_ranked_l10 N tk cp sh fc A H K kk))), (4, .int ((x0_ranked_l27 N tk cp sh fc A H K (x0_ranked_l10 N tk cp sh fc A H K kk) 0 j8) + 1)), (5, .int (nI j8))]) rfl ?_
                      exact z_eqL (by first | (simp only [if_pos hl6, if_neg c14, if_pos c16, if_neg (Nat.not_le.mpr c17)] <;> rfl; done) | grind) rfl J15
          exact Lp10 H 0 (by omega)
      ·
        rw [show (x0_ranked_l10 N tk cp sh fc A H K kk) = H from by omega]
        refine z_iload_n hX dX0_ranked_10 11 rfl (i := 3) rfl 3 rfl ?_
        refine z_aload_n hX dX0_ranked_11 12 rfl (i := 0) rfl 0 rfl ?_
        refine z_getf hX fX0_10 hM.1.o dX0_ranked_12 15 rfl (x := .ref t) rfl ?_
        obtain ⟨opr, os1, os2, of1, of2, ob1, ob2, hT9, h19, h29⟩ := id hM.2.1
        refine z_getfN hX fX0_64 hT9.o dX0_ranked_15 18 rfl (x := .int (nI H)) (congrArg (fun z => some (Value.int z)) hN.2.2.1) ?_
        refine z_icmp_geN hX H H (by omega) (by omega) dX0_ranked_18 21 rfl (tgt := 88) (by decide) (fun c18 => ?_) (fun c18 => ?_)
        ·
          refine z_iconst hX dX0_ranked_88 89 rfl zki_m1 ?_
          have hM : zFx G xq x t dq tp bg bl tpd ∧ zTw g G q t B N tk cp sh fc (x1_falls_gn N tk cp sh fc A H K) ∧ zFrK [(q, 0), (q, 1), (q, 2)] G0 G := ⟨hM.1, hM.2.1, hM.2.2.2⟩
          exact z_iret hX hQ (by omega) (by omega) rfl dX0_ranked_89 ⟨(by first | (simp only [if_neg hl6] <;> rfl; done) | grind), hM⟩
        · exact absurd c18 (by omega)
    | succ k ih =>
      intro j1 hj1
      refine z_iload_n hX dX0_ranked_10 11 rfl (i := 3) rfl 3 rfl ?_
      refine z_aload_n hX dX0_ranked_11 12 rfl (i := 0) rfl 0 rfl ?_
      refine z_getf hX fX0_10 hM.1.o dX0_ranked_12 15 rfl (x := .ref t) rfl ?_
      obtain ⟨opr, os1, os2, of1, of2, ob1, ob2, hT9, h19, h29⟩ := id hM.2.1
      refine z_getfN hX fX0_64 hT9.o dX0_ranked_15 18 rfl (x := .int (nI H)) (congrArg (fun z => some (Value.int z)) hN.2.2.1) ?_
      refine z_icmp_geN hX j1 H (by omega) (by omega) dX0_ranked_18 21 rfl (tgt := 88) (by decide) (fun c19 => ?_) (fun c19 => ?_)
      · exact absurd c19 (by omega)
      ·
        refine z_iconst hX dX0_ranked_21 22 rfl zki_0 ?_
        refine z_istore hX dX0_ranked_22 24 rfl (Nat.le_of_ble_eq_true rfl) rfl (L' := [(0, .ref x), (1, .int kk), (2, .ref s4), (3, .int (nI j1)), (4, .int 0)]) rfl ?_
        refine z_iconst hX dX0_ranked_24 25 rfl zki_0 ?_
        refine z_istore hX dX0_ranked_25 27 rfl (Nat.le_of_ble_eq_true rfl) rfl (L' := [(0, .ref x), (1, .int kk), (2, .ref s4), (3, .int (nI j1)), (4, .int 0), (5, .int 0)]) rfl ?_
        have E21 : ZW g X 8 28 G 74 [(0, .ref x), (1, .int kk), (2, .ref s4), (3, .int (nI j1)), (4, .int (x0_ranked_l27 N tk cp sh fc A H K j1 0 H)), (5, .int (nI H))] [] := by
          refine z_iload hX dX0_ranked_74 76 rfl 4 rfl ?_
          refine z_iload_n hX dX0_ranked_76 77 rfl (i := 1) rfl 1 rfl ?_
          refine z_icmp_ne hX dX0_ranked_77 80 rfl (tgt := 82) (by decide) (fun c23 => ?_) (fun c23 => ?_)
          ·
            refine z_iinc hX dX0_ranked_82 85 rfl 3 rfl (w := nI (j1 + 1)) (nI_1 j1) (Nat.le_of_ble_eq_true rfl) rfl (L' := [(0, .ref x), (1, .int kk), (2, .ref s4), (3, .int (nI (j1 + 1))), (4, .int (x0_ranked_l27 N tk cp sh fc A H K j1 0 H)), (5, .int (nI H))]) rfl ?_
            refine z_goto hX dX0_ranked_85 (tgt := 10) (by decide) ?_
            refine z_sub [0, 1, 2, 3] rfl ?_
            exact ih (j1 + 1) (by omega)
          · exact absurd c23 (f3 j1 (by omega))
        have Lp22 : ∀ k j20 : Nat, j20 + k = H → ZW g X 8 28 G 27 [(0, .ref x), (1, .int kk), (2, .ref s4), (3, .int (nI j1)), (4, .int (x0_ranked_l27 N tk cp sh fc A H K j1 0 j20)), (5, .int (nI j20))] [] := by
          intro k
          induction k with
          | zero =>
            intro j20 hj20
            rw [show j20 = H from by omega]
            refine z_iload hX dX0_ranked_27 29 rfl 5 rfl ?_
            refine z_aload_n hX dX0_ranked_29 30 rfl (i := 0) rfl 0 rfl ?_
            refine z_getf hX fX0_10 hM.1.o dX0_ranked_30 33 rfl (x := .ref t) rfl ?_
            obtain ⟨opr, os1, os2, of1, of2, ob1, ob2, hT9, h19, h29⟩ := id hM.2.1
            refine z_getfN hX fX0_64 hT9.o dX0_ranked_33 36 rfl (x := .int (nI H)) (congrArg (fun z => some (Value.int z)) hN.2.2.1) ?_
            refine z_icmp_geN hX H H (by omega) (by omega) dX0_ranked_36 39 rfl (tgt := 74) (by decide) (fun c24 => ?_) (fun c24 => ?_)
            · exact E21
            · exact absurd c24 (by omega)
          | succ k ih =>
            intro j20 hj20
            refine z_iload hX dX0_ranked_27 29 rfl 5 rfl ?_
            refine z_aload_n hX dX0_ranked_29 30 rfl (i := 0) rfl 0 rfl ?_
            refine z_getf hX fX0_10 hM.1.o dX0_ranked_30 33 rfl (x := .ref t) rfl ?_
            obtain ⟨opr, os1, os2, of1, of2, ob1, ob2, hT9, h19, h29⟩ := id hM.2.1
            refine z_getfN hX fX0_64 hT9.o dX0_ranked_33 36 rfl (x := .int (nI H)) (congrArg (fun z => some (Value.int z)) hN.2.2.1) ?_
            refine z_icmp_geN hX j20 H (by omega) (by omega) dX0_ranked_36 39 rfl (tgt := 74) (by decide) (fun c25 => ?_) (fun c25 => ?_)
            · exact absurd c25 (by omega)
            ·
              refine z_aload_n hX dX0_ranked_39 40 rfl (i := 2) rfl 2 rfl ?_
              refine z_iload hX dX0_ranked_40 42 rfl 5 rfl ?_
              refine z_ialdF hX hM.2.2.1 (j := j20) (by omega) (by decide) dX0_ranked_42 43 rfl (w := (x1_falls_res_f N tk cp sh fc A H K) j20) rfl ?_
              refine z_aload_n hX dX0_ranked_43 44 rfl (i := 2) rfl 2 rfl ?_
              refine z_iload_n hX dX0_ranked_44 45 rfl (i := 3) rfl 3 rfl ?_
              refine z_ialdF hX hM.2.2.1 (j := j1) (by omega) (by decide) dX0_ranked_45 46 rfl (w := (x1_falls_res_f N tk cp sh fc A H K) j1) rfl ?_
              have J27 : ZW g X 8 28 G 68 [(0, .ref x), (1, .int kk), (2, .ref s4), (3, .int (nI j1)), (4, .int (if ((x1_falls_res_f N tk cp sh fc A H K) j20) < ((x1_falls_res_f N tk cp sh fc A H K) j1) then (x0_ranked_l27 N tk cp sh fc A H K j1 0 j20) + 1 else (if ((x1_falls_res_f N tk cp sh fc A H K) j20) = ((x1_falls_res_f N tk cp sh fc A H K) j1) then (if j1 ≤ j20 then x0_ranked_l27 N tk cp sh fc A H K j1 0 j20 else (x0_ranked_l27 N tk cp sh fc A H K j1 0 j20) + 1 : Int32) else x0_ranked_l27 N tk cp sh fc A H K j1 0 j20 : Int32) : Int32)), (5, .int (nI j20))] [] := by
                refine z_iinc hX dX0_ranked_68 71 rfl 5 rfl (w := nI (j20 + 1)) (nI_1 j20) (Nat.le_of_ble_eq_true rfl) rfl (L' := [(0, .ref x), (1, .int kk), (2, .ref s4), (3, .int (nI j1)), (4, .int (if ((x1_falls_res_f N tk cp sh fc A H K) j20) < ((x1_falls_res_f N tk cp sh fc A H K) j1) then (x0_ranked_l27 N tk cp sh fc A H K j1 0 j20) + 1 else (if ((x1_falls_res_f N tk cp sh fc A H K) j20) = ((x1_falls_res_f N tk cp sh fc A H K) j1) then (if j1 ≤ j20 then x0_ranked_l27 N tk cp sh fc A H K j1 0 j20 else (x0_ranked_l27 N tk cp sh fc A H K j1 0 j20) + 1 : Int32) else x0_ranked_l27 N tk cp sh fc A H K j1 0 j20 : Int32) : Int32)), (5, .int (nI (j20 + 1)))]) rfl ?_
                refine z_goto hX dX0_ranked_71 (tgt := 27) (by decide) ?_
                exact ih (j20 + 1) (by omega)
              refine z_icmp_lt hX dX0_ranked_46 49 rfl (tgt := 65) (by decide) (fun c26 => ?_) (fun c26 => ?_)
              ·
                refine z_iinc hX dX0_ranked_65 68 rfl 4 rfl (w := (x0_ranked_l27 N tk cp sh fc A H K j1 0 j20) + 1) rfl (Nat.le_of_ble_eq_true rfl) rfl (L' := [(0, .ref x), (1, .int kk), (2, .ref s4), (3, .int (nI j1)), (4, .int ((x0_ranked_l27 N tk cp sh fc A H K j1 0 j20) + 1)), (5, .int (nI j20))]) rfl ?_
                exact z_eqL (by first | (simp only [if_pos c26] <;> rfl; done) | grind) rfl J27
              ·
                refine z_aload_n hX dX0_ranked_49 50 rfl (i := 2) rfl 2 rfl ?_
                refine z_iload hX dX0_ranked_50 52 rfl 5 rfl ?_
                refine z_ialdF hX hM.2.2.1 (j := j20) (by omega) (by decide) dX0_ranked_52 53 rfl (w := (x1_falls_res_f N tk cp sh fc A H K) j20) rfl ?_
                refine z_aload_n hX dX0_ranked_53 54 rfl (i := 2) rfl 2 rfl ?_
                refine z_iload_n hX dX0_ranked_54 55 rfl (i := 3) rfl 3 rfl ?_
                refine z_ialdF hX hM.2.2.1 (j := j1) (by omega) (by decide) dX0_ranked_55 56 rfl (w := (x1_falls_res_f N tk cp sh fc A H K) j1) rfl ?_
                refine z_icmp_ne hX dX0_ranked_56 59 rfl (tgt := 68) (by decide) (fun c28 => ?_) (fun c28 => ?_)
                ·
                  exact z_eqL (by first | (simp only [if_neg c26, if_neg c28] <;> rfl; done) | grind) rfl J27
                ·
                  refine z_iload hX dX0_ranked_59 61 rfl 5 rfl ?_
                  refine z_iload_n hX dX0_ranked_61 62 rfl (i := 3) rfl 3 rfl ?_
                  refine z_icmp_geN hX j20 j1 (by omega) (by omega) dX0_ranked_62 65 rfl (tgt := 68) (by decide) (fun c29 => ?_) (fun c29 => ?_)
                  ·
                    exact z_eqL (by first | (simp only [if_neg c26, if_pos c28, if_pos c29] <;> rfl; done) | grind) rfl J27
                  ·
                    refine z_iinc hX dX0_ranked_65 68 rfl 4 rfl (w := (x0_ranked_l27 N tk cp sh fc A H K j1 0 j20) + 1) rfl (Nat.le_of_ble_eq_true rfl) rfl (L' := [(0, .ref x), (1, .int kk), (2, .ref s4), (3, .int (nI j1)), (4, .int ((x0_ranked_l27 N tk cp sh fc A H K j1 0 j20) + 1)), (5, .int (nI j20))]) rfl ?_
                    exact z_eqL (by first | (simp only [if_neg c26, if_pos c28, if_neg (Nat.not_le.mpr c29)] <;> rfl; done) | grind) rfl J27
        exact Lp22 H 0 (by omega)
  exact Lp5 (x0_ranked_l10 N tk cp sh fc A H K kk) 0 (by omega)
noncomputable def x0_helper (N : Nat → Int32) (tk : Nat → Int32) (cp : Nat → Int32) (sh : Nat → Int32) (fc : Int32) (gn : Int32) (A : Nat) (H : Nat) (K : Nat → Nat) (coins : Int32) (what : Int32) : Int32 := (if zin coins 10000 then (if zin what 2 then (if what.toNatClampNeg = 0 then x0_bestHouse N tk cp sh fc gn A H K (nI coins.toNatClampNeg) else (if (x0_bestHouse N tk cp sh fc gn A H K (nI coins.toNatClampNeg)) = (-2) then x0_bestHouse N tk cp sh fc gn A H K (nI coins.toNatClampNeg) else x1_lost N tk sh (x0_withCoins_res_sold N tk cp sh fc A H K ((x0_bestHouse N tk cp sh fc gn A H K (nI coins.toNatClampNeg)).toNatClampNeg) (nI coins.toNatClampNeg)) A K : Int32) : Int32) else (-1) : Int32) else (-1) : Int32)
noncomputable def x0_helper_gn (N : Nat → Int32) (tk : Nat → Int32) (cp : Nat → Int32) (sh : Nat → Int32) (fc : Int32) (gn : Int32) (A : Nat) (H : Nat) (K : Nat → Nat) (coins : Int32) (what : Int32) : Int32 := if zin coins 10000 then if zin what 2 then if what.toNatClampNeg = 0 then x0_bestHouse_gn N tk cp sh fc gn A H K (nI coins.toNatClampNeg) else if (x0_bestHouse N tk cp sh fc gn A H K (nI coins.toNatClampNeg)) = (-2) then x0_bestHouse_gn N tk cp sh fc gn A H K (nI coins.toNatClampNeg) else x0_withCoins_gn N tk cp sh fc A H K ((x0_bestHouse N tk cp sh fc gn A H K (nI coins.toNatClampNeg)).toNatClampNeg) (nI coins.toNatClampNeg) else gn else gn
set_option maxHeartbeats 4000000 in
theorem met_X0_helper {g : Zg} (hG : zG g) {G0 : zHG} {xq x dq tp : Nat} {bg : Value} {bl tpd : Int32} {q t : Nat} {B : Nat → Nat → Nat} {N tk cp sh : Nat → Int32} {fc gn : Int32} (hx : zFx G0 xq x t dq tp bg bl tpd) (ht : zTw g G0 q t B N tk cp sh fc gn) {A H : Nat} {K : Nat → Nat} (hN : zWf N A H K) (ne_x_t_00 : (xq, 0) ≠ (q, 0)) (ne_x_t_01 : (xq, 0) ≠ (q, 1)) (ne_x_t_02 : (xq, 0) ≠ (q, 2)) (coins : Int32) (what : Int32) (af0 : (zin coins 10000) → (zin what 2) → ¬ (what.toNatClampNeg = 0) → ¬ ((x0_bestHouse N tk cp sh fc gn A H K (nI coins.toNatClampNeg)) = (-2)) → zin (x0_bestHouse N tk cp sh fc gn A H K (nI coins.toNatClampNeg)) H) : ZM g yX0_helper cX0_helper 4 (some FieldType.int) 11 35 112 [.ref x, .int coins, .int what] G0 (fun r G' => r = some (.int (x0_helper N tk cp sh fc gn A H K coins what)) ∧ (zFx G' xq x t dq tp bg bl tpd ∧ zTw g G' q t B N tk cp sh fc (x0_helper_gn N tk cp sh fc gn A H K coins what) ∧ zFrK [(q, 0), (q, 1), (q, 2)] G0 G')) := by
  unfold x0_helper x0_helper_gn
  have hN2 := hN.2.1
  have hN4 := hN.2.2.2.1
  refine ZM_mk hG (by decide) (Nat.le_of_ble_eq_true rfl) ?_
  intro X hX hname hQ
  obtain ⟨G, hGe⟩ : ∃ z, z = G0 := ⟨_, rfl⟩
  have hM : zFx G xq x t dq tp bg bl tpd ∧ zTw g G q t B N tk cp sh fc gn ∧ zFrK [(q, 0), (q, 1), (q, 2)] G0 G := by rw [hGe]; exact ⟨hx, ht, zFrK.rf⟩
  show ZW g X 0 0 G0 0 [(0, .ref x), (1, .int coins), (2, .int what)] []
  rw [← hGe]
  refine z_iload_n hX dX0_helper_0 1 rfl (i := 1) rfl 1 rfl ?_
  refine z_i2l hX dX0_helper_1 2 rfl (w := (coins).toInt64) (by first | rfl | decide) ?_
  refine z_lconst hX dX0_helper_2 3 rfl (w := 0) rfl ?_
  refine z_ldc2 hX q418 dX0_helper_3 6 rfl ?_
  refine z_eqL (L' := [(0, .ref x), (1, .int coins), (2, .int what)]) (st' := [.long ((9999 : Int32).toInt64), .long ((0 : Int32).toInt64), .long ((coins).toInt64)]) rfl (by rfl) ?_
  refine z_callSp hX cwX0_45 (w := .int (if zin coins 10000 then 1 else 0 : Int32)) (met_X0_inz hG coins 9999 10000 (by decide)) dX0_helper_6 9 rfl rfl rfl (Nat.le_of_ble_eq_true rfl) (by decide) ⟨Nat.zero_le _, Nat.zero_le _⟩ ?_
  refine z_if_eqP hX (zin coins 10000) dX0_helper_9 12 rfl (tgt := 22) (by decide) (fun c1 => ?_) (fun c1 => ?_)
  ·
    refine z_iconst hX dX0_helper_22 23 rfl zki_m1 ?_
    exact z_iret hX hQ (by omega) (by omega) rfl dX0_helper_23 ⟨(by first | (simp only [if_neg c1] <;> rfl; done) | grind), (by first | (simpa only [if_neg c1] using hM) | ((try simp only [if_neg c1]); exact hM))⟩
  ·
    have e_coins := zin_eq c1
    have l_coins := zin_lt c1
    refine z_eqL (L' := [(0, .ref x), (1, .int (nI coins.toNatClampNeg)), (2, .int what)]) (st' := []) (by rw [← e_coins]) (by first | rfl | rw [← e_coins]) ?_
    refine z_iload_n hX dX0_helper_12 13 rfl (i := 2) rfl 2 rfl ?_
    refine z_i2l hX dX0_helper_13 14 rfl (w := (what).toInt64) (by first | rfl | decide) ?_
    refine z_lconst hX dX0_helper_14 15 rfl (w := 0) rfl ?_
    refine z_lconst hX dX0_helper_15 16 rfl (w := 1) rfl ?_
    refine z_eqL (L' := [(0, .ref x), (1, .int (nI coins.toNatClampNeg)), (2, .int what)]) (st' := [.long ((1 : Int32).toInt64), .long ((0 : Int32).toInt64), .long ((what).toInt64)]) rfl (by rfl) ?_
    refine z_callSp hX cwX0_45 (w := .int (if zin what 2 then 1 else 0 : Int32)) (met_X0_inz hG what 1 2 (by decide)) dX0_helper_16 19 rfl rfl rfl (Nat.le_of_ble_eq_true rfl) (by decide) ⟨Nat.zero_le _, Nat.zero_le _⟩ ?_
    refine z_if_neP hX (zin what 2) dX0_helper_19 22 rfl (tgt := 24) (by decide) (fun c2 => ?_) (fun c2 => ?_)
    ·
      have e_what := zin_eq c2
      have l_what := zin_lt c2
      refine z_eqL (L' := [(0, .ref x), (1, .int (nI coins.toNatClampNeg)), (2, .int (nI what.toNatClampNeg))]) (st' := []) (by rw [← e_what]) (by first | rfl | rw [← e_what]) ?_
      refine z_aload_n hX dX0_helper_24 25 rfl (i := 0) rfl 0 rfl ?_
      refine z_aload_n hX dX0_helper_25 26 rfl (i := 0) rfl 0 rfl ?_
      refine z_getf hX fX0_10 hM.1.o dX0_helper_26 29 rfl (x := .ref t) rfl ?_
      refine z_iload_n hX dX0_helper_29 30 rfl (i := 1) rfl 1 rfl ?_
      refine z_callV hX cwX0_302 (met_X0_bestHouse hG hM.1 hM.2.1 hN ne_x_t_00 ne_x_t_01 ne_x_t_02 (nI coins.toNatClampNeg)) hM.1.o rfl rfl dX0_helper_30 33 rfl rfl rfl (Nat.le_of_ble_eq_true rfl) (by decide) ⟨by omega, by omega⟩ (fun r G hP => ?_)
      obtain ⟨rfl, hP⟩ := hP
      have hM : zFx G xq x t dq tp bg bl tpd ∧ zTw g G q t B N tk cp sh fc (x0_bestHouse_gn N tk cp sh fc gn A H K (nI coins.toNatClampNeg)) ∧ zFrK [(q, 0), (q, 1), (q, 2)] G0 G := ⟨hP.1, hP.2.1, hM.2.2.stepL hP.2.2 (zml1 (Or.inl List.mem_cons_self) (zml1 (Or.inl (List.mem_cons_of_mem _ List.mem_cons_self)) (zml1 (Or.inl (List.mem_cons_of_mem _ (List.mem_cons_of_mem _ List.mem_cons_self))) zml0)))⟩
      show ZW g X 30 96 G 33 [(0, .ref x), (1, .int (nI coins.toNatClampNeg)), (2, .int (nI what.toNatClampNeg))] [.int (x0_bestHouse N tk cp sh fc gn A H K (nI coins.toNatClampNeg))]
      refine z_istore_n hX dX0_helper_33 34 rfl (i := 3) rfl (Nat.le_of_ble_eq_true rfl) rfl (L' := [(0, .ref x), (1, .int (nI coins.toNatClampNeg)), (2, .int (nI what.toNatClampNeg)), (3, .int (x0_bestHouse N tk cp sh fc gn A H K (nI coins.toNatClampNeg)))]) rfl ?_
      refine z_iload_n hX dX0_helper_34 35 rfl (i := 2) rfl 2 rfl ?_
      refine z_if_eqN hX what.toNatClampNeg (by omega) dX0_helper_35 38 rfl (tgt := 44) (by decide) (fun c3 => ?_) (fun c3 => ?_)
      ·
        refine z_iload_n hX dX0_helper_44 45 rfl (i := 3) rfl 3 rfl ?_
        refine z_goto hX dX0_helper_45 (tgt := 65) (by decide) ?_
        exact z_iret hX hQ (by omega) (by omega) rfl dX0_helper_65 ⟨(by first | (simp only [if_pos c1, if_pos c2, if_pos c3] <;> rfl; done) | grind), (by first | (simpa only [if_pos c1, if_pos c2, if_pos c3] using hM) | ((try simp only [if_pos c1]); (try simp only [if_pos c2]); (try simp only [if_pos c3]); exact hM))⟩
      ·
        refine z_iload_n hX dX0_helper_38 39 rfl (i := 3) rfl 3 rfl ?_
        refine z_bipush hX dX0_helper_39 41 rfl zkb_m2 ?_
        refine z_icmp_ne hX dX0_helper_41 44 rfl (tgt := 48) (by decide) (fun c4 => ?_) (fun c4 => ?_)
        ·
          refine z_aload_n hX dX0_helper_48 49 rfl (i := 0) rfl 0 rfl ?_
          refine z_getf hX fX0_10 hM.1.o dX0_helper_49 52 rfl (x := .ref t) rfl ?_
          refine z_aload_n hX dX0_helper_52 53 rfl (i := 0) rfl 0 rfl ?_
          refine z_aload_n hX dX0_helper_53 54 rfl (i := 0) rfl 0 rfl ?_
          refine z_getf hX fX0_10 hM.1.o dX0_helper_54 57 rfl (x := .ref t) rfl ?_
          have hz5 : zin (x0_bestHouse N tk cp sh fc gn A H K (nI coins.toNatClampNeg)) H := (af0 c1 c2 c3 c4)
          have ehz5 := zin_eq hz5
          have lhz5 := zin_lt hz5
          refine z_eqL (L' := [(0, .ref x), (1, .int (nI coins.toNatClampNeg)), (2, .int (nI what.toNatClampNeg)), (3, .int (nI ((x0_bestHouse N tk cp sh fc gn A H K (nI coins.toNatClampNeg)).toNatClampNeg)))]) (st' := [.ref t, .ref x, .ref t]) (by rw [← ehz5]) rfl ?_
          refine z_iload_n hX dX0_helper_57 58 rfl (i := 3) rfl 3 rfl ?_
          refine z_iload_n hX dX0_helper_58 59 rfl (i := 1) rfl 1 rfl ?_
          refine z_callV hX cwX0_298 (met_X0_withCoins hG hM.1 hM.2.1 hN ne_x_t_00 ne_x_t_01 ne_x_t_02 ((x0_bestHouse N tk cp sh fc gn A H K (nI coins.toNatClampNeg)).toNatClampNeg) (nI coins.toNatClampNeg) (by omega)) hM.1.o rfl rfl dX0_helper_59 62 rfl rfl rfl (Nat.le_of_ble_eq_true rfl) (by decide) ⟨by omega, by omega⟩ (fun r G hP => ?_)
          obtain ⟨ns59, s59, bs59, hzs59, rfl, hP⟩ := hP
          have ne_x_s59 : (xq, 0) ≠ (ns59, 0) := hzs59.neT hM.1.o
          obtain ⟨fs9, ho9⟩ := hM.2.1.o
          have ne_t_s59_0 : (q, 0) ≠ (ns59, 0) := hzs59.neT ho9
          have ne_t_s59_1 : (q, 1) ≠ (ns59, 0) := hzs59.neT ho9
          have ne_t_s59_2 : (q, 2) ≠ (ns59, 0) := hzs59.neT ho9
          have nq_t_s59 : q ≠ ns59 := hzs59 _ _ _ ho9
          have fn_s59 : zFresh G0 ns59 := hzs59.of' hM.2.2 (zfm1 nq_t_s59 (zfm1 nq_t_s59 (zfm1 nq_t_s59 zfm0)))
          have hM : zFx G xq x t dq tp bg bl tpd ∧ zTw g G q t B N tk cp sh fc (x0_withCoins_gn N tk cp sh fc A H K ((x0_bestHouse N tk cp sh fc gn A H K (nI coins.toNatClampNeg)).toNatClampNeg) (nI coins.toNatClampNeg)) ∧ zSt g G (ns59, 0) s59 bs59 (x0_withCoins_res_sold N tk cp sh fc A H K ((x0_bestHouse N tk cp sh fc gn A H K (nI coins.toNatClampNeg)).toNatClampNeg) (nI coins.toNatClampNeg)) (x0_withCoins_res_fallen N tk cp sh fc A H K ((x0_bestHouse N tk cp sh fc gn A H K (nI coins.toNatClampNeg)).toNatClampNeg) (nI coins.toNatClampNeg)) ∧ zFrK [(q, 0), (q, 1), (q, 2)] G0 G := ⟨hP.1, hP.2.1, hP.2.2.1, hM.2.2.stepL hP.2.2.2 (zml1 (Or.inl List.mem_cons_self) (zml1 (Or.inl (List.mem_cons_of_mem _ List.mem_cons_self)) (zml1 (Or.inl (List.mem_cons_of_mem _ (List.mem_cons_of_mem _ List.mem_cons_self))) zml0)))⟩
          show ZW g X 35 112 G 62 [(0, .ref x), (1, .int (nI coins.toNatClampNeg)), (2, .int (nI what.toNatClampNeg)), (3, .int (nI ((x0_bestHouse N tk cp sh fc gn A H K (nI coins.toNatClampNeg)).toNatClampNeg)))] [.ref s59, .ref t]
          obtain ⟨opr, os1, os2, of1, of2, ob1, ob2, hT9, h19, h29⟩ := id hM.2.1
          refine z_callVp hX cwX0_246 (w := .int (x1_lost N tk sh (x0_withCoins_res_sold N tk cp sh fc A H K ((x0_bestHouse N tk cp sh fc gn A H K (nI coins.toNatClampNeg)).toNatClampNeg) (nI coins.toNatClampNeg)) A K)) (met_X1_lost hG hT9 hM.2.2.1 hN) hT9.o rfl rfl dX0_helper_62 65 rfl rfl rfl (Nat.le_of_ble_eq_true rfl) (by decide) ⟨by omega, by omega⟩ ?_
          have hM : zFx G xq x t dq tp bg bl tpd ∧ zTw g G q t B N tk cp sh fc (x0_withCoins_gn N tk cp sh fc A H K ((x0_bestHouse N tk cp sh fc gn A H K (nI coins.toNatClampNeg)).toNatClampNeg) (nI coins.toNatClampNeg)) ∧ zFrK [(q, 0), (q, 1), (q, 2)] G0 G := ⟨hM.1, hM.2.1, hM.2.2.2⟩
          exact z_iret hX hQ (by omega) (by omega) rfl dX0_helper_65 ⟨(by first | (simp only [if_pos c1, if_pos c2, if_neg c3, if_neg c4] <;> rfl; done) | grind), (by first | (simpa only [if_pos c1, if_pos c2, if_neg c3, if_neg c4] using hM) | ((try simp only [if_pos c1]); (try simp only [if_pos c2]); (try simp only [if_neg c3]); (try simp only [if_neg c4]); exact hM))⟩
        ·
          refine z_iload_n hX dX0_helper_44 45 rfl (i := 3) rfl 3 rfl ?_
          refine z_goto hX dX0_helper_45 (tgt := 65) (by decide) ?_
          exact z_iret hX hQ (by omega) (by omega) rfl dX0_helper_65 ⟨(by first | (simp only [if_pos c1, if_pos c2, if_neg c3, if_pos c4] <;> rfl; done) | grind), (by first | (simpa only [if_pos c1, if_pos c2, if_neg c3, if_pos c4] using hM) | ((try simp only [if_pos c1]); (try simp only [if_pos c2]); (try simp only [if_neg c3]); (try simp only [if_pos c4]); exact hM))⟩
    ·
      refine z_iconst hX dX0_helper_22 23 rfl zki_m1 ?_
      exact z_iret hX hQ (by omega) (by omega) rfl dX0_helper_23 ⟨(by first | (simp only [if_pos c1, if_neg c2] <;> rfl; done) | grind), (by first | (simpa only [if_pos c1, if_neg c2] using hM) | ((try simp only [if_pos c1]); (try simp only [if_neg c2]); exact hM))⟩
def x1_pays_N (N : Nat → Int32) (h : Nat) (a : Nat) (n : Int32) (price : Int32) : Nat → Int32 := upd (upd N (40 + (4 * h) + a) ((N (40 + (4 * h) + a)) - n)) (10 + (5 * h)) (if ((N (10 + (5 * h))) + (n * price)) < 9999 then ((N (10 + (5 * h))) + (n * price)) else 9999 : Int32)
def x1_pays_l_f (l_f : Nat → Int32) (h : Nat) (a : Nat) (n : Int32) (price : Int32) : Nat → Int32 := upd l_f a ((l_f a) - n)
set_option maxHeartbeats 4000000 in
theorem met_X1_pays {g : Zg} (hG : zG g) {G0 : zHG} {q t : Nat} {B : Nat → Nat → Nat} {N tk cp sh pr : Nat → Int32} {fc gn : Int32} {ll : Nat × Nat} {l : Nat} {l_f : Nat → Int32} (ht : zTo g G0 q t B N tk cp sh pr fc gn) (hl : zAr G0 l ll (zca g 0) 4 l_f) (h9_l : ¬ (zKy ll).2 = 9) (ne_t_l : (q, 0) ≠ zKy ll) (h : Nat) (a : Nat) (n : Int32) (price : Int32) (h_h : h < 6) (h_a : a < 4)  : ZM g yX1_pays cX1_pays 6 none 1 0 0 [.ref t, .int (nI h), .int (nI a), .int n, .int price, .ref l] G0 (fun r G' => r = none ∧ (zTo g G' q t B (x1_pays_N N h a n price) tk cp sh pr fc gn ∧ zAr G' l ll (zca g 0) 4 (x1_pays_l_f l_f h a n price) ∧ zFrK [(q, 0), zKy ll] G0 G')) := by
  unfold x1_pays_N x1_pays_l_f
  refine ZM_mk hG (by decide) (Nat.le_of_ble_eq_true rfl) ?_
  intro X hX hname hQ
  obtain ⟨G, hGe⟩ : ∃ z, z = G0 := ⟨_, rfl⟩
  have hM : zTo g G q t B N tk cp sh pr fc gn ∧ zAr G l ll (zca g 0) 4 l_f ∧ zFrK [(q, 0), zKy ll] G0 G := by rw [hGe]; exact ⟨ht, hl, zFrK.rf⟩
  show ZW g X 0 0 G0 0 [(0, .ref t), (1, .int (nI h)), (2, .int (nI a)), (3, .int n), (4, .int price), (5, .ref l)] []
  rw [← hGe]
  refine z_aload hX dX1_pays_0 2 rfl 5 rfl ?_
  refine z_iload_n hX dX1_pays_2 3 rfl (i := 2) rfl 2 rfl ?_
  refine z_dup2_11 hX dX1_pays_3 4 rfl rfl rfl ?_
  refine z_ialdF hX hM.2.1 (j := a) (by omega) (by decide) dX1_pays_4 5 rfl (w := l_f a) rfl ?_
  refine z_iload_n hX dX1_pays_5 6 rfl (i := 3) rfl 3 rfl ?_
  refine z_isub hX dX1_pays_6 7 rfl (w := (l_f a) - n) rfl ?_
  refine v_ast hX hM.2.1 a (by omega) (by decide) dX1_pays_7 8 rfl (fun G hw hf => ?_)
  have hM : zTo g G q t B N tk cp sh pr fc gn ∧ zAr G l ll (zca g 0) 4 (upd l_f a ((l_f a) - n)) ∧ zFrK [(q, 0), zKy ll] G0 G := ⟨hM.1.kp (hf.kp (Ne.symm ne_t_l) h9_l), hw, hM.2.2.step (hf.toK rfl h9_l) (List.mem_cons_of_mem _ List.mem_cons_self)⟩
  refine z_aload_n hX dX1_pays_8 9 rfl (i := 0) rfl 0 rfl ?_
  refine z_getf hX fX1_19 hM.1.o dX1_pays_9 12 rfl (x := .ref (B 3 0)) rfl ?_
  refine z_iload_n hX dX1_pays_12 13 rfl (i := 1) rfl 1 rfl ?_
  refine z_aaldF hX 2 rfl rfl hM.1.h0 (j := h) (by omega) (by decide) rfl dX1_pays_13 14 rfl ?_
  refine z_iload_n hX dX1_pays_14 15 rfl (i := 2) rfl 2 rfl ?_
  refine z_dup2_11 hX dX1_pays_15 16 rfl rfl rfl ?_
  refine z_ialdF hX (hM.1.fh h (by omega)) (j := a) (by omega) (by decide) dX1_pays_16 17 rfl (w := N (40 + (4 * h) + a)) rfl ?_
  refine z_iload_n hX dX1_pays_17 18 rfl (i := 3) rfl 3 rfl ?_
  refine z_isub hX dX1_pays_18 19 rfl (w := (N (40 + (4 * h) + a)) - n) rfl ?_
  refine t_ast_hold hX hM.1 h a (by omega) (by omega) dX1_pays_19 20 rfl (fun G hw hf => ?_)
  have hM : zTo g G q t B (upd N (40 + (4 * h) + a) ((N (40 + (4 * h) + a)) - n)) tk cp sh pr fc gn ∧ zAr G l ll (zca g 0) 4 (upd l_f a ((l_f a) - n)) ∧ zFrK [(q, 0), zKy ll] G0 G := ⟨hw, hM.2.1.kp (hf.kp (zni1 (Ne.symm ne_t_l) zni0)) rfl, hM.2.2.step hf List.mem_cons_self⟩
  refine z_aload_n hX dX1_pays_20 21 rfl (i := 0) rfl 0 rfl ?_
  refine z_getf hX fX1_16 hM.1.o dX1_pays_21 24 rfl (x := .ref (B 2 0)) rfl ?_
  refine z_iload_n hX dX1_pays_24 25 rfl (i := 1) rfl 1 rfl ?_
  refine z_aaldF hX 2 rfl rfl hM.1.o0 (j := h) (by omega) (by decide) rfl dX1_pays_25 26 rfl ?_
  refine z_iconst hX dX1_pays_26 27 rfl zki_0 ?_
  refine z_sipush hX dX1_pays_27 30 rfl zks_9999 ?_
  refine z_aload_n hX dX1_pays_30 31 rfl (i := 0) rfl 0 rfl ?_
  refine z_getf hX fX1_16 hM.1.o dX1_pays_31 34 rfl (x := .ref (B 2 0)) rfl ?_
  refine z_iload_n hX dX1_pays_34 35 rfl (i := 1) rfl 1 rfl ?_
  refine z_aaldF hX 2 rfl rfl hM.1.o0 (j := h) (by omega) (by decide) rfl dX1_pays_35 36 rfl ?_
  refine z_iconst hX dX1_pays_36 37 rfl zki_0 ?_
  refine z_ialdF hX (hM.1.fo h (by omega)) (j := 0) (by omega) (by decide) dX1_pays_37 38 rfl (w := N (10 + (5 * h))) (zpk_un (by omega)) ?_
  refine z_iload_n hX dX1_pays_38 39 rfl (i := 3) rfl 3 rfl ?_
  refine z_iload hX dX1_pays_39 41 rfl 4 rfl ?_
  refine z_imul hX dX1_pays_41 42 rfl (w := n * price) rfl ?_
  refine z_iadd hX dX1_pays_42 43 rfl (w := (N (10 + (5 * h))) + (n * price)) rfl ?_
  refine z_mmin hX q589 q408 q113 q409 dX1_pays_43 46 rfl (by decide) (Nat.le_of_ble_eq_true rfl) (by omega) (by omega) (w := (if ((N (10 + (5 * h))) + (n * price)) < 9999 then ((N (10 + (5 * h))) + (n * price)) else 9999 : Int32)) (by first | rfl | (split <;> split <;> first | rfl | omega | (exfalso; simp_all))) ?_
  refine t_ast_of hX hM.1 h 0 (by omega) (by omega) dX1_pays_46 47 rfl (fun G hw hf => ?_)
  have hM : zTo g G q t B (upd (upd N (40 + (4 * h) + a) ((N (40 + (4 * h) + a)) - n)) (10 + (5 * h)) (if ((N (10 + (5 * h))) + (n * price)) < 9999 then ((N (10 + (5 * h))) + (n * price)) else 9999 : Int32)) tk cp sh pr fc gn ∧ zAr G l ll (zca g 0) 4 (upd l_f a ((l_f a) - n)) ∧ zFrK [(q, 0), zKy ll] G0 G := ⟨hw, hM.2.1.kp (hf.kp (zni1 (Ne.symm ne_t_l) zni0)) rfl, hM.2.2.step hf List.mem_cons_self⟩
  exact z_vret hX hQ (Nat.zero_le _) (Nat.zero_le _) rfl dX1_pays_47 ⟨rfl, hM⟩
