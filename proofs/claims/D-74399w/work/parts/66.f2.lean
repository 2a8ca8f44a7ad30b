set_option maxRecDepth 100000
def x1_cap_l35 (N : Nat → Int32) (a : Nat) (j1 : Nat) (ini : Int32) (k : Nat) : Int32 := zfold k (fun j3 cj3 => (if (N (100 + (13 * j1) + 1 + (3 * j3) + 1)) = (nI a) then (if (if N (100 + (13 * j1) + 1 + (3 * j3)) = 0 then (if N (100 + (13 * j1) + 1 + (3 * j3) + 2) < 360 then N (100 + (13 * j1) + 1 + (3 * j3) + 2) else 360) else 360 : Int32) < cj3 then (if N (100 + (13 * j1) + 1 + (3 * j3)) = 0 then (if N (100 + (13 * j1) + 1 + (3 * j3) + 2) < 360 then N (100 + (13 * j1) + 1 + (3 * j3) + 2) else 360) else 360 : Int32) else cj3 : Int32) else cj3 : Int32)) ini
theorem x1_cap_l35_0 (N : Nat → Int32) (a : Nat) (j1 : Nat) (ini : Int32) : x1_cap_l35 N a j1 ini 0 = ini := (zfold_0 _ _).trans (Eq.refl _)
def x1_cap_l19 (N : Nat → Int32) (K : Nat → Nat) (a : Nat) (ini : Int32) (k : Nat) : Int32 := zfold k (fun j1 cj1 => x1_cap_l35 N a j1 cj1 (K j1)) ini
theorem x1_cap_l19_0 (N : Nat → Int32) (K : Nat → Nat) (a : Nat) (ini : Int32) : x1_cap_l19 N K a ini 0 = ini := (zfold_0 _ _).trans (Eq.refl _)
def x1_cap (N : Nat → Int32) (cp : Nat → Int32) (K : Nat → Nat) (a : Nat) : Int32 := x1_cap_l19 N K a (cp a) 3
set_option maxHeartbeats 4000000 in
theorem met_X1_cap {g : Zg} (hG : zG g) {G : zHG} {q t : Nat} {B : Nat → Nat → Nat} {N tk cp sh pr : Nat → Int32} {fc gn : Int32} (ht : zTo g G q t B N tk cp sh pr fc gn) {A H : Nat} {K : Nat → Nat} (hN : zWf N A H K) (a : Nat) (h_a : a < 4)  : ZM g yX1_cap cX1_cap 8 (some FieldType.int) 3 0 0 [.ref t, .int (nI a)] G (zRet (some (.int (x1_cap N cp K a))) G) := by
  unfold x1_cap
  have hN2 := hN.2.1
  have hN4 := hN.2.2.2.1
  refine ZM_mk hG (by decide) (Nat.le_of_ble_eq_true rfl) ?_
  intro X hX hname hQ
  show ZW g X 0 0 G 0 [(0, .ref t), (1, .int (nI a))] []
  refine z_aload_n hX dX1_cap_0 1 rfl (i := 0) rfl 0 rfl ?_
  refine z_getf hX fX1_44 ht.o dX1_cap_1 4 rfl (x := .ref (B 7 0)) rfl ?_
  refine z_iload_n hX dX1_cap_4 5 rfl (i := 1) rfl 1 rfl ?_
  refine z_ialdF hX ht.v7 (j := a) (by omega) (by decide) dX1_cap_5 6 rfl (w := cp a) rfl ?_
  refine z_istore_n hX dX1_cap_6 7 rfl (i := 2) rfl (Nat.le_of_ble_eq_true rfl) rfl (L' := [(0, .ref t), (1, .int (nI a)), (2, .int (cp a))]) rfl ?_
  refine z_aload_n hX dX1_cap_7 8 rfl (i := 0) rfl 0 rfl ?_
  refine z_getf hX fX1_36 ht.o dX1_cap_8 11 rfl (x := .ref (B 5 0)) rfl ?_
  refine z_astore_n hX dX1_cap_11 12 rfl (i := 3) rfl (Nat.le_of_ble_eq_true rfl) rfl (L' := [(0, .ref t), (1, .int (nI a)), (2, .int (cp a)), (3, .ref (B 5 0))]) rfl ?_
  refine z_aload_n hX dX1_cap_12 13 rfl (i := 3) rfl 3 rfl ?_
  refine z_alenR hX 3 rfl ht.s0 dX1_cap_13 14 rfl ?_
  refine z_istore hX dX1_cap_14 16 rfl (Nat.le_of_ble_eq_true rfl) rfl (L' := [(0, .ref t), (1, .int (nI a)), (2, .int (cp a)), (3, .ref (B 5 0)), (4, .int (nI 3))]) rfl ?_
  refine z_iconst hX dX1_cap_16 17 rfl zki_0 ?_
  refine z_istore hX dX1_cap_17 19 rfl (Nat.le_of_ble_eq_true rfl) rfl (L' := [(0, .ref t), (1, .int (nI a)), (2, .int (cp a)), (3, .ref (B 5 0)), (4, .int (nI 3)), (5, .int 0)]) rfl ?_
  have E2 : ZW g X 0 0 G 88 [(0, .ref t), (1, .int (nI a)), (2, .int (x1_cap_l19 N K a (cp a) 3)), (3, .ref (B 5 0)), (4, .int (nI 3)), (5, .int (nI 3))] [] := by
    refine z_iload_n hX dX1_cap_88 89 rfl (i := 2) rfl 2 rfl ?_
    exact z_iret hX hQ (Nat.zero_le _) (Nat.zero_le _) rfl dX1_cap_89 ⟨rfl, rfl⟩
  have Lp3 : ∀ k j1 : Nat, j1 + k = 3 → ZW g X 0 0 G 19 [(0, .ref t), (1, .int (nI a)), (2, .int (x1_cap_l19 N K a (cp a) j1)), (3, .ref (B 5 0)), (4, .int (nI 3)), (5, .int (nI j1))] [] := by
    intro k
    induction k with
    | zero =>
      intro j1 hj1
      rw [show j1 = 3 from by omega]
      refine z_iload hX dX1_cap_19 21 rfl 5 rfl ?_
      refine z_iload hX dX1_cap_21 23 rfl 4 rfl ?_
      refine z_icmp_geN hX 3 3 (by omega) (by omega) dX1_cap_23 26 rfl (tgt := 88) (by decide) (fun c4 => ?_) (fun c4 => ?_)
      · exact E2
      · exact absurd c4 (by omega)
    | succ k ih =>
      intro j1 hj1
      refine z_iload hX dX1_cap_19 21 rfl 5 rfl ?_
      refine z_iload hX dX1_cap_21 23 rfl 4 rfl ?_
      refine z_icmp_geN hX j1 3 (by omega) (by omega) dX1_cap_23 26 rfl (tgt := 88) (by decide) (fun c5 => ?_) (fun c5 => ?_)
      · exact absurd c5 (by omega)
      ·
        refine z_aload_n hX dX1_cap_26 27 rfl (i := 3) rfl 3 rfl ?_
        refine z_iload hX dX1_cap_27 29 rfl 5 rfl ?_
        refine z_aaldF hX 3 rfl rfl ht.s0 (j := j1) (by omega) (by decide) rfl dX1_cap_29 30 rfl ?_
        refine z_astore hX dX1_cap_30 32 rfl (Nat.le_of_ble_eq_true rfl) rfl (L' := [(0, .ref t), (1, .int (nI a)), (2, .int (x1_cap_l19 N K a (cp a) j1)), (3, .ref (B 5 0)), (4, .int (nI 3)), (5, .int (nI j1)), (6, .ref (B 15 j1))]) rfl ?_
        refine z_iconst hX dX1_cap_32 33 rfl zki_0 ?_
        refine z_istore hX dX1_cap_33 35 rfl (Nat.le_of_ble_eq_true rfl) rfl (L' := [(0, .ref t), (1, .int (nI a)), (2, .int (x1_cap_l19 N K a (cp a) j1)), (3, .ref (B 5 0)), (4, .int (nI 3)), (5, .int (nI j1)), (6, .ref (B 15 j1)), (7, .int 0)]) rfl ?_
        have E7 : ZW g X 0 0 G 82 [(0, .ref t), (1, .int (nI a)), (2, .int (x1_cap_l35 N a j1 (x1_cap_l19 N K a (cp a) j1) (K j1))), (3, .ref (B 5 0)), (4, .int (nI 3)), (5, .int (nI j1)), (6, .ref (B 15 j1)), (7, .int (nI (K j1)))] [] := by
          refine z_iinc hX dX1_cap_82 85 rfl 5 rfl (w := nI (j1 + 1)) (nI_1 j1) (Nat.le_of_ble_eq_true rfl) rfl (L' := [(0, .ref t), (1, .int (nI a)), (2, .int (x1_cap_l35 N a j1 (x1_cap_l19 N K a (cp a) j1) (K j1))), (3, .ref (B 5 0)), (4, .int (nI 3)), (5, .int (nI (j1 + 1))), (6, .ref (B 15 j1)), (7, .int (nI (K j1)))]) rfl ?_
          refine z_goto hX dX1_cap_85 (tgt := 19) (by decide) ?_
          refine z_sub [0, 1, 2, 3, 4, 5] rfl ?_
          exact ih (j1 + 1) (by omega)
        have Lp8 : ∀ k j6 : Nat, j6 + k = K j1 → ZW g X 0 0 G 35 [(0, .ref t), (1, .int (nI a)), (2, .int (x1_cap_l35 N a j1 (x1_cap_l19 N K a (cp a) j1) j6)), (3, .ref (B 5 0)), (4, .int (nI 3)), (5, .int (nI j1)), (6, .ref (B 15 j1)), (7, .int (nI j6))] [] := by
          intro k
          induction k with
          | zero =>
            intro j6 hj6
            rw [show j6 = K j1 from by omega]
            refine z_iload hX dX1_cap_35 37 rfl 7 rfl ?_
            refine z_aload hX dX1_cap_37 39 rfl 6 rfl ?_
            have hKj1 := (hN.2.2.2.2.1 j1 (by omega)).2
            refine z_getfN hX fX1_95 (ht.fs j1 (by omega)).1 dX1_cap_39 42 rfl (x := .int (nI (K j1))) (congrArg (fun z => some (Value.int z)) (hN.2.2.2.2.1 j1 (by omega)).1) ?_
            refine z_icmp_geN hX (K j1) (K j1) (by omega) (by omega) dX1_cap_42 45 rfl (tgt := 82) (by decide) (fun c9 => ?_) (fun c9 => ?_)
            · exact E7
            · exact absurd c9 (by omega)
          | succ k ih =>
            intro j6 hj6
            refine z_iload hX dX1_cap_35 37 rfl 7 rfl ?_
            refine z_aload hX dX1_cap_37 39 rfl 6 rfl ?_
            have hKj1 := (hN.2.2.2.2.1 j1 (by omega)).2
            refine z_getfN hX fX1_95 (ht.fs j1 (by omega)).1 dX1_cap_39 42 rfl (x := .int (nI (K j1))) (congrArg (fun z => some (Value.int z)) (hN.2.2.2.2.1 j1 (by omega)).1) ?_
            refine z_icmp_geN hX j6 (K j1) (by omega) (by omega) dX1_cap_42 45 rfl (tgt := 82) (by decide) (fun c10 => ?_) (fun c10 => ?_)
            · exact absurd c10 (by omega)
            ·
              refine z_aload hX dX1_cap_45 47 rfl 6 rfl ?_
              refine z_getfN hX fX1_98 (ht.fs j1 (by omega)).1 dX1_cap_47 50 rfl (x := .ref (B 16 j1)) rfl ?_
              refine z_iload hX dX1_cap_50 52 rfl 7 rfl ?_
              have hKj1 := (hN.2.2.2.2.1 j1 (by omega)).2
              obtain ⟨fr11, hgr11, hrr11⟩ := (ht.fs j1 (by omega)).2
              obtain ⟨r11, hfr11, hur11⟩ := hrr11 j6 (by rw [(hN.2.2.2.2.1 j1 (by omega)).1, nI_clamp (by omega)]; omega) (by omega)
              obtain ⟨tyr11, htr11, hir11⟩ := zsc_ty g (s := j1) (by omega)
              refine z_aaldF hX _ htr11 hir11 hgr11 (j := j6) (by omega) (by decide) hfr11 dX1_cap_52 53 rfl ?_
              refine r_get_asset hX hur11 fX1_102_7 fX1_102_8 dX1_cap_53 56 rfl ?_
              refine z_iload_n hX dX1_cap_56 57 rfl (i := 1) rfl 1 rfl ?_
              have J13 : ZW g X 0 0 G 76 [(0, .ref t), (1, .int (nI a)), (2, .int (if (N (100 + (13 * j1) + 1 + (3 * j6) + 1)) = (nI a) then (if (if N (100 + (13 * j1) + 1 + (3 * j6)) = 0 then (if N (100 + (13 * j1) + 1 + (3 * j6) + 2) < 360 then N (100 + (13 * j1) + 1 + (3 * j6) + 2) else 360) else 360 : Int32) < (x1_cap_l35 N a j1 (x1_cap_l19 N K a (cp a) j1) j6) then (if N (100 + (13 * j1) + 1 + (3 * j6)) = 0 then (if N (100 + (13 * j1) + 1 + (3 * j6) + 2) < 360 then N (100 + (13 * j1) + 1 + (3 * j6) + 2) else 360) else 360 : Int32) else (x1_cap_l35 N a j1 (x1_cap_l19 N K a (cp a) j1) j6) : Int32) else x1_cap_l35 N a j1 (x1_cap_l19 N K a (cp a) j1) j6 : Int32)), (3, .ref (B 5 0)), (4, .int (nI 3)), (5, .int (nI j1)), (6, .ref (B 15 j1)), (7, .int (nI j6))] [] := by
                refine z_iinc hX dX1_cap_76 79 rfl 7 rfl (w := nI (j6 + 1)) (nI_1 j6) (Nat.le_of_ble_eq_true rfl) rfl (L' := [(0, .ref t), (1, .int (nI a)), (2, .int (if (N (100 + (13 * j1) + 1 + (3 * j6) + 1)) = (nI a) then (if (if N (100 + (13 * j1) + 1 + (3 * j6)) = 0 then (if N (100 + (13 * j1) + 1 + (3 * j6) + 2) < 360 then N (100 + (13 * j1) + 1 + (3 * j6) + 2) else 360) else 360 : Int32) < (x1_cap_l35 N a j1 (x1_cap_l19 N K a (cp a) j1) j6) then (if N (100 + (13 * j1) + 1 + (3 * j6)) = 0 then (if N (100 + (13 * j1) + 1 + (3 * j6) + 2) < 360 then N (100 + (13 * j1) + 1 + (3 * j6) + 2) else 360) else 360 : Int32) else (x1_cap_l35 N a j1 (x1_cap_l19 N K a (cp a) j1) j6) : Int32) else x1_cap_l35 N a j1 (x1_cap_l19 N K a (cp a) j1) j6 : Int32)), (3, .ref (B 5 0)), (4, .int (nI 3)), (5, .int (nI j1)), (6, .ref (B 15 j1)), (7, .int (nI (j6 + 1)))]) rfl ?_
                refine z_goto hX dX1_cap_79 (tgt := 35) (by decide) ?_
                exact ih (j6 + 1) (by omega)
              refine z_icmp_ne hX dX1_cap_57 60 rfl (tgt := 76) (by decide) (fun c12 => ?_) (fun c12 => ?_)
              ·
                exact z_eqL (by first | (simp only [if_neg c12] <;> rfl; done) | grind) rfl J13
              ·
                refine z_iload_n hX dX1_cap_60 61 rfl (i := 2) rfl 2 rfl ?_
                refine z_aload hX dX1_cap_61 63 rfl 6 rfl ?_
                refine z_getfN hX fX1_98 (ht.fs j1 (by omega)).1 dX1_cap_63 66 rfl (x := .ref (B 16 j1)) rfl ?_
                refine z_iload hX dX1_cap_66 68 rfl 7 rfl ?_
                have hKj1 := (hN.2.2.2.2.1 j1 (by omega)).2
                obtain ⟨fr14, hgr14, hrr14⟩ := (ht.fs j1 (by omega)).2
                obtain ⟨r14, hfr14, hur14⟩ := hrr14 j6 (by rw [(hN.2.2.2.2.1 j1 (by omega)).1, nI_clamp (by omega)]; omega) (by omega)
                obtain ⟨tyr14, htr14, hir14⟩ := zsc_ty g (s := j1) (by omega)
                refine z_aaldF hX _ htr14 hir14 hgr14 (j := j6) (by omega) (by decide) hfr14 dX1_cap_68 69 rfl ?_
                refine r_cap_X1 hX hur14 dX1_cap_69 72 rfl (Nat.le_of_ble_eq_true rfl) (by decide) ⟨by omega, by omega⟩ ?_
                refine z_mmin hX q589 q408 q113 q409 dX1_cap_72 75 rfl (by decide) (Nat.le_of_ble_eq_true rfl) (by omega) (by omega) (w := (if (if N (100 + (13 * j1) + 1 + (3 * j6)) = 0 then (if N (100 + (13 * j1) + 1 + (3 * j6) + 2) < 360 then N (100 + (13 * j1) + 1 + (3 * j6) + 2) else 360) else 360 : Int32) < (x1_cap_l35 N a j1 (x1_cap_l19 N K a (cp a) j1) j6) then (if N (100 + (13 * j1) + 1 + (3 * j6)) = 0 then (if N (100 + (13 * j1) + 1 + (3 * j6) + 2) < 360 then N (100 + (13 * j1) + 1 + (3 * j6) + 2) else 360) else 360 : Int32) else (x1_cap_l35 N a j1 (x1_cap_l19 N K a (cp a) j1) j6) : Int32)) (by first | rfl | (split <;> split <;> first | rfl | omega | (exfalso; simp_all))) ?_
                refine z_istore_n hX dX1_cap_75 76 rfl (i := 2) rfl (Nat.le_of_ble_eq_true rfl) rfl (L' := [(0, .ref t), (1, .int (nI a)), (2, .int (if (if N (100 + (13 * j1) + 1 + (3 * j6)) = 0 then (if N (100 + (13 * j1) + 1 + (3 * j6) + 2) < 360 then N (100 + (13 * j1) + 1 + (3 * j6) + 2) else 360) else 360 : Int32) < (x1_cap_l35 N a j1 (x1_cap_l19 N K a (cp a) j1) j6) then (if N (100 + (13 * j1) + 1 + (3 * j6)) = 0 then (if N (100 + (13 * j1) + 1 + (3 * j6) + 2) < 360 then N (100 + (13 * j1) + 1 + (3 * j6) + 2) else 360) else 360 : Int32) else (x1_cap_l35 N a j1 (x1_cap_l19 N K a (cp a) j1) j6) : Int32)), (3, .ref (B 5 0)), (4, .int (nI 3)), (5, .int (nI j1)), (6, .ref (B 15 j1)), (7, .int (nI j6))]) rfl ?_
                exact z_eqL (by first | (simp only [if_pos c12] <;> rfl; done) | grind) rfl J13
        exact Lp8 (K j1) 0 (by omega)
  exact Lp3 3 0 (by omega)
def x1_shocks_l35 (N : Nat → Int32) (a : Nat) (j1 : Nat) (ini : Int32) (k : Nat) : Int32 := zfold k (fun j3 cj3 => (if (N (100 + (13 * j1) + 1 + (3 * j3) + 1)) = (nI a) then cj3 + (if N (100 + (13 * j1) + 1 + (3 * j3)) = 0 then 0 else 0 + (N (100 + (13 * j1) + 1 + (3 * j3) + 2)) : Int32) else cj3 : Int32)) ini
theorem x1_shocks_l35_0 (N : Nat → Int32) (a : Nat) (j1 : Nat) (ini : Int32) : x1_shocks_l35 N a j1 ini 0 = ini := (zfold_0 _ _).trans (Eq.refl _)
def x1_shocks_l19 (N : Nat → Int32) (K : Nat → Nat) (a : Nat) (ini : Int32) (k : Nat) : Int32 := zfold k (fun j1 cj1 => x1_shocks_l35 N a j1 cj1 (K j1)) ini
theorem x1_shocks_l19_0 (N : Nat → Int32) (K : Nat → Nat) (a : Nat) (ini : Int32) : x1_shocks_l19 N K a ini 0 = ini := (zfold_0 _ _).trans (Eq.refl _)
def x1_shocks (N : Nat → Int32) (sh : Nat → Int32) (K : Nat → Nat) (a : Nat) : Int32 := x1_shocks_l19 N K a (sh a) 3
set_option maxHeartbeats 4000000 in
theorem met_X1_shocks {g : Zg} (hG : zG g) {G : zHG} {q t : Nat} {B : Nat → Nat → Nat} {N tk cp sh pr : Nat → Int32} {fc gn : Int32} (ht : zTo g G q t B N tk cp sh pr fc gn) {A H : Nat} {K : Nat → Nat} (hN : zWf N A H K) (a : Nat) (h_a : a < 4)  : ZM g yX1_shocks cX1_shocks 8 (some FieldType.int) 3 0 0 [.ref t, .int (nI a)] G (zRet (some (.int (x1_shocks N sh K a))) G) := by
  unfold x1_shocks
  have hN2 := hN.2.1
  have hN4 := hN.2.2.2.1
  refine ZM_mk hG (by decide) (Nat.le_of_ble_eq_true rfl) ?_
  intro X hX hname hQ
  show ZW g X 0 0 G 0 [(0, .ref t), (1, .int (nI a))] []
  refine z_aload_n hX dX1_shocks_0 1 rfl (i := 0) rfl 0 rfl ?_
  refine z_getf hX fX1_47 ht.o dX1_shocks_1 4 rfl (x := .ref (B 8 0)) rfl ?_
  refine z_iload_n hX dX1_shocks_4 5 rfl (i := 1) rfl 1 rfl ?_
  refine z_ialdF hX ht.v8 (j := a) (by omega) (by decide) dX1_shocks_5 6 rfl (w := sh a) rfl ?_
  refine z_istore_n hX dX1_shocks_6 7 rfl (i := 2) rfl (Nat.le_of_ble_eq_true rfl) rfl (L' := [(0, .ref t), (1, .int (nI a)), (2, .int (sh a))]) rfl ?_
  refine z_aload_n hX dX1_shocks_7 8 rfl (i := 0) rfl 0 rfl ?_
  refine z_getf hX fX1_36 ht.o dX1_shocks_8 11 rfl (x := .ref (B 5 0)) rfl ?_
  refine z_astore_n hX dX1_shocks_11 12 rfl (i := 3) rfl (Nat.le_of_ble_eq_true rfl) rfl (L' := [(0, .ref t), (1, .int (nI a)), (2, .int (sh a)), (3, .ref (B 5 0))]) rfl ?_
  refine z_aload_n hX dX1_shocks_12 13 rfl (i := 3) rfl 3 rfl ?_
  refine z_alenR hX 3 rfl ht.s0 dX1_shocks_13 14 rfl ?_
  refine z_istore hX dX1_shocks_14 16 rfl (Nat.le_of_ble_eq_true rfl) rfl (L' := [(0, .ref t), (1, .int (nI a)), (2, .int (sh a)), (3, .ref (B 5 0)), (4, .int (nI 3))]) rfl ?_
  refine z_iconst hX dX1_shocks_16 17 rfl zki_0 ?_
  refine z_istore hX dX1_shocks_17 19 rfl (Nat.le_of_ble_eq_true rfl) rfl (L' := [(0, .ref t), (1, .int (nI a)), (2, .int (sh a)), (3, .ref (B 5 0)), (4, .int (nI 3)), (5, .int 0)]) rfl ?_
  have E2 : ZW g X 0 0 G 86 [(0, .ref t), (1, .int (nI a)), (2, .int (x1_shocks_l19 N K a (sh a) 3)), (3, .ref (B 5 0)), (4, .int (nI 3)), (5, .int (nI 3))] [] := by
    refine z_iload_n hX dX1_shocks_86 87 rfl (i := 2) rfl 2 rfl ?_
    exact z_iret hX hQ (Nat.zero_le _) (Nat.zero_le _) rfl dX1_shocks_87 ⟨rfl, rfl⟩
  have Lp3 : ∀ k j1 : Nat, j1 + k = 3 → ZW g X 0 0 G 19 [(0, .ref t), (1, .int (nI a)), (2, .int (x1_shocks_l19 N K a (sh a) j1)), (3, .ref (B 5 0)), (4, .int (nI 3)), (5, .int (nI j1))] [] := by
    intro k
    induction k with
    | zero =>
      intro j1 hj1
      rw [show j1 = 3 from by omega]
      refine z_iload hX dX1_shocks_19 21 rfl 5 rfl ?_
      refine z_iload hX dX1_shocks_21 23 rfl 4 rfl ?_
      refine z_icmp_geN hX 3 3 (by omega) (by omega) dX1_shocks_23 26 rfl (tgt := 86) (by decide) (fun c4 => ?_) (fun c4 => ?_)
      · exact E2
      · exact absurd c4 (by omega)
    | succ k ih =>
      intro j1 hj1
      refine z_iload hX dX1_shocks_19 21 rfl 5 rfl ?_
      refine z_iload hX dX1_shocks_21 23 rfl 4 rfl ?_
      refine z_icmp_geN hX j1 3 (by omega) (by omega) dX1_shocks_23 26 rfl (tgt := 86) (by decide) (fun c5 => ?_) (fun c5 => ?_)
      · exact absurd c5 (by omega)
      ·
        refine z_aload_n hX dX1_shocks_26 27 rfl (i := 3) rfl 3 rfl ?_
        refine z_iload hX dX1_shocks_27 29 rfl 5 rfl ?_
        refine z_aaldF hX 3 rfl rfl ht.s0 (j := j1) (by omega) (by decide) rfl dX1_shocks_29 30 rfl ?_
        refine z_astore hX dX1_shocks_30 32 rfl (Nat.le_of_ble_eq_true rfl) rfl (L' := [(0, .ref t), (1, .int (nI a)), (2, .int (x1_shocks_l19 N K a (sh a) j1)), (3, .ref (B 5 0)), (4, .int (nI 3)), (5, .int (nI j1)), (6, .ref (B 15 j1))]) rfl ?_
        refine z_iconst hX dX1_shocks_32 33 rfl zki_0 ?_
        refine z_istore hX dX1_shocks_33 35 rfl (Nat.le_of_ble_eq_true rfl) rfl (L' := [(0, .ref t), (1, .int (nI a)), (2, .int (x1_shocks_l19 N K a (sh a) j1)), (3, .ref (B 5 0)), (4, .int (nI 3)), (5, .int (nI j1)), (6, .ref (B 15 j1)), (7, .int 0)]) rfl ?_
        have E7 : ZW g X 0 0 G 80 [(0, .ref t), (1, .int (nI a)), (2, .int (x1_shocks_l35 N a j1 (x1_shocks_l19 N K a (sh a) j1) (K j1))), (3, .ref (B 5 0)), (4, .int (nI 3)), (5, .int (nI j1)), (6, .ref (B 15 j1)), (7, .int (nI (K j1)))] [] := by
          refine z_iinc hX dX1_shocks_80 83 rfl 5 rfl (w := nI (j1 + 1)) (nI_1 j1) (Nat.le_of_ble_eq_true rfl) rfl (L' := [(0, .ref t), (1, .int (nI a)), (2, .int (x1_shocks_l35 N a j1 (x1_shocks_l19 N K a (sh a) j1) (K j1))), (3, .ref (B 5 0)), (4, .int (nI 3)), (5, .int (nI (j1 + 1))), (6, .ref (B 15 j1)), (7, .int (nI (K j1)))]) rfl ?_
          refine z_goto hX dX1_shocks_83 (tgt := 19) (by decide) ?_
          refine z_sub [0, 1, 2, 3, 4, 5] rfl ?_
          exact ih (j1 + 1) (by omega)
        have Lp8 : ∀ k j6 : Nat, j6 + k = K j1 → ZW g X 0 0 G 35 [(0, .ref t), (1, .int (nI a)), (2, .int (x1_shocks_l35 N a j1 (x1_shocks_l19 N K a (sh a) j1) j6)), (3, .ref (B 5 0)), (4, .int (nI 3)), (5, .int (nI j1)), (6, .ref (B 15 j1)), (7, .int (nI j6))] [] := by
          intro k
          induction k with
          | zero =>
            intro j6 hj6
            rw [show j6 = K j1 from by omega]
            refine z_iload hX dX1_shocks_35 37 rfl 7 rfl ?_
            refine z_aload hX dX1_shocks_37 39 rfl 6 rfl ?_
            have hKj1 := (hN.2.2.2.2.1 j1 (by omega)).2
            refine z_getfN hX fX1_95 (ht.fs j1 (by omega)).1 dX1_shocks_39 42 rfl (x := .int (nI (K j1))) (congrArg (fun z => some (Value.int z)) (hN.2.2.2.2.1 j1 (by omega)).1) ?_
            refine z_icmp_geN hX (K j1) (K j1) (by omega) (by omega) dX1_shocks_42 45 rfl (tgt := 80) (by decide) (fun c9 => ?_) (fun c9 => ?_)
            · exact E7
            · exact absurd c9 (by omega)
          | succ k ih =>
            intro j6 hj6
            refine z_iload hX dX1_shocks_35 37 rfl 7 rfl ?_
            refine z_aload hX dX1_shocks_37 39 rfl 6 rfl ?_
            have hKj1 := (hN.2.2.2.2.1 j1 (by omega)).2
            refine z_getfN hX fX1_95 (ht.fs j1 (by omega)).1 dX1_shocks_39 42 rfl (x := .int (nI (K j1))) (congrArg (fun z => some (Value.int z)) (hN.2.2.2.2.1 j1 (by omega)).1) ?_
            refine z_icmp_geN hX j6 (K j1) (by omega) (by omega) dX1_shocks_42 45 rfl (tgt := 80) (by decide) (fun c10 => ?_) (fun c10 => ?_)
            · exact absurd c10 (by omega)
            ·
              refine z_aload hX dX1_shocks_45 47 rfl 6 rfl ?_
              refine z_getfN hX fX1_98 (ht.fs j1 (by omega)).1 dX1_shocks_47 50 rfl (x := .ref (B 16 j1)) rfl ?_
              refine z_iload hX dX1_shocks_50 52 rfl 7 rfl ?_
              have hKj1 := (hN.2.2.2.2.1 j1 (by omega)).2
              obtain ⟨fr11, hgr11, hrr11⟩ := (ht.fs j1 (by omega)).2
              obtain ⟨r11, hfr11, hur11⟩ := hrr11 j6 (by rw [(hN.2.2.2.2.1 j1 (by omega)).1, nI_clamp (by omega)]; omega) (by omega)
              obtain ⟨tyr11, htr11, hir11⟩ := zsc_ty g (s := j1) (by omega)
              refine z_aaldF hX _ htr11 hir11 hgr11 (j := j6) (by omega) (by decide) hfr11 dX1_shocks_52 53 rfl ?_
              refine r_get_asset hX hur11 fX1_102_7 fX1_102_8 dX1_shocks_53 56 rfl ?_
              refine z_iload_n hX dX1_shocks_56 57 rfl (i := 1) rfl 1 rfl ?_
              have J13 : ZW g X 0 0 G 74 [(0, .ref t), (1, .int (nI a)), (2, .int (if (N (100 + (13 * j1) + 1 + (3 * j6) + 1)) = (nI a) then (x1_shocks_l35 N a j1 (x1_shocks_l19 N K a (sh a) j1) j6) + (if N (100 + (13 * j1) + 1 + (3 * j6)) = 0 then 0 else 0 + (N (100 + (13 * j1) + 1 + (3 * j6) + 2)) : Int32) else x1_shocks_l35 N a j1 (x1_shocks_l19 N K a (sh a) j1) j6 : Int32)), (3, .ref (B 5 0)), (4, .int (nI 3)), (5, .int (nI j1)), (6, .ref (B 15 j1)), (7, .int (nI j6))] [] := by
                refine z_iinc hX dX1_shocks_74 77 rfl 7 rfl (w := nI (j6 + 1)) (nI_1 j6) (Nat.le_of_ble_eq_true rfl) rfl (L' := [(0, .ref t), (1, .int (nI a)), (2, .int (if (N (100 + (13 * j1) + 1 + (3 * j6) + 1)) = (nI a) then (x1_shocks_l35 N a j1 (x1_shocks_l19 N K a (sh a) j1) j6) + (if N (100 + (13 * j1) + 1 + (3 * j6)) = 0 then 0 else 0 + (N (100 + (13 * j1) + 1 + (3 * j6) + 2)) : Int32) else x1_shocks_l35 N a j1 (x1_shocks_l19 N K a (sh a) j1) j6 : Int32)), (3, .ref (B 5 0)), (4, .int (nI 3)), (5, .int (nI j1)), (6, .ref (B 15 j1)), (7, .int (nI (j6 + 1)))]) rfl ?_
                refine z_goto hX dX1_shocks_77 (tgt := 35) (by decide) ?_
                exact ih (j6 + 1) (by omega)
              refine z_icmp_ne hX dX1_shocks_57 60 rfl (tgt := 74) (by decide) (fun c12 => ?_) (fun c12 => ?_)
              ·
                exact z_eqL (by first | (simp only [if_neg c12] <;> rfl; done) | grind) rfl J13
              ·
                refine z_iload_n hX dX1_shocks_60 61 rfl (i := 2) rfl 2 rfl ?_
                refine z_aload hX dX1_shocks_61 63 rfl 6 rfl ?_
                refine z_getfN hX fX1_98 (ht.fs j1 (by omega)).1 dX1_shocks_63 66 rfl (x := .ref (B 16 j1)) rfl ?_
                refine z_iload hX dX1_shocks_66 68 rfl 7 rfl ?_
                have hKj1 := (hN.2.2.2.2.1 j1 (by omega)).2
                obtain ⟨fr14, hgr14, hrr14⟩ := (ht.fs j1 (by omega)).2
                obtain ⟨r14, hfr14, hur14⟩ := hrr14 j6 (by rw [(hN.2.2.2.2.1 j1 (by omega)).1, nI_clamp (by omega)]; omega) (by omega)
                obtain ⟨tyr14, htr14, hir14⟩ := zsc_ty g (s := j1) (by omega)
                refine z_aaldF hX _ htr14 hir14 hgr14 (j := j6) (by omega) (by decide) hfr14 dX1_shocks_68 69 rfl ?_
                refine r_shock_X1 hX hur14 dX1_shocks_69 72 rfl (Nat.le_of_ble_eq_true rfl) (by decide) ⟨by omega, by omega⟩ ?_
                refine z_iadd hX dX1_shocks_72 73 rfl (w := (x1_shocks_l35 N a j1 (x1_shocks_l19 N K a (sh a) j1) j6) + (if N (100 + (13 * j1) + 1 + (3 * j6)) = 0 then 0 else 0 + (N (100 + (13 * j1) + 1 + (3 * j6) + 2)) : Int32)) rfl ?_
                refine z_istore_n hX dX1_shocks_73 74 rfl (i := 2) rfl (Nat.le_of_ble_eq_true rfl) rfl (L' := [(0, .ref t), (1, .int (nI a)), (2, .int ((x1_shocks_l35 N a j1 (x1_shocks_l19 N K a (sh a) j1) j6) + (if N (100 + (13 * j1) + 1 + (3 * j6)) = 0 then 0 else 0 + (N (100 + (13 * j1) + 1 + (3 * j6) + 2)) : Int32))), (3, .ref (B 5 0)), (4, .int (nI 3)), (5, .int (nI j1)), (6, .ref (B 15 j1)), (7, .int (nI j6))]) rfl ?_
                exact z_eqL (by first | (simp only [if_pos c12] <;> rfl; done) | grind) rfl J13
        exact Lp8 (K j1) 0 (by omega)
  exact Lp3 3 0 (by omega)
def x1_price (N : Nat → Int32) (tk : Nat → Int32) (sh : Nat → Int32) (s_sold : Nat → Int32) (K : Nat → Nat) (a : Nat) : Int32 := (if 0 < (((N (2 + a)) - (x1_shocks N sh K a)) - ((N (6 + a)) * (if 0 < ((s_sold a) - (tk a)) then ((s_sold a) - (tk a)) else 0 : Int32))) then (((N (2 + a)) - (x1_shocks N sh K a)) - ((N (6 + a)) * (if 0 < ((s_sold a) - (tk a)) then ((s_sold a) - (tk a)) else 0 : Int32))) else 0 : Int32)
set_option maxHeartbeats 4000000 in
theorem met_X1_price {g : Zg} (hG : zG g) {G : zHG} {q t : Nat} {B : Nat → Nat → Nat} {N tk cp sh pr : Nat → Int32} {fc gn : Int32} {ks : Nat × Nat} {s : Nat} {bs : Nat} {s_sold : Nat → Int32} {s_fallen : Int32} (ht : zTo g G q t B N tk cp sh pr fc gn) (hs : zSt g G ks s bs s_sold s_fallen) {A H : Nat} {K : Nat → Nat} (hN : zWf N A H K) (a : Nat) (h_a : a < 4)  : ZM g yX1_price cX1_price 4 (some FieldType.int) 4 0 0 [.ref t, .ref s, .int (nI a)] G (zRet (some (.int (x1_price N tk sh s_sold K a))) G) := by
  unfold x1_price
  have hN2 := hN.2.1
  have hN4 := hN.2.2.2.1
  refine ZM_mk hG (by decide) (Nat.le_of_ble_eq_true rfl) ?_
  intro X hX hname hQ
  show ZW g X 0 0 G 0 [(0, .ref t), (1, .ref s), (2, .int (nI a))] []
  refine z_iconst hX dX1_price_0 1 rfl zki_0 ?_
  refine z_aload_n hX dX1_price_1 2 rfl (i := 1) rfl 1 rfl ?_
  refine z_getfN hX fX1_124 hs.o dX1_price_2 5 rfl (x := .ref bs) rfl ?_
  refine z_iload_n hX dX1_price_5 6 rfl (i := 2) rfl 2 rfl ?_
  refine z_ialdF hX hs.2 (j := a) (by omega) (by decide) dX1_price_6 7 rfl (w := s_sold a) rfl ?_
  refine z_aload_n hX dX1_price_7 8 rfl (i := 0) rfl 0 rfl ?_
  refine z_getf hX fX1_40 ht.o dX1_price_8 11 rfl (x := .ref (B 6 0)) rfl ?_
  refine z_iload_n hX dX1_price_11 12 rfl (i := 2) rfl 2 rfl ?_
  refine z_ialdF hX ht.v6 (j := a) (by omega) (by decide) dX1_price_12 13 rfl (w := tk a) rfl ?_
  refine z_isub hX dX1_price_13 14 rfl (w := (s_sold a) - (tk a)) rfl ?_
  refine z_mmax hX q636 q637 q113 q638 dX1_price_14 17 rfl (by decide) (Nat.le_of_ble_eq_true rfl) (by omega) (by omega) (w := (if 0 < ((s_sold a) - (tk a)) then ((s_sold a) - (tk a)) else 0 : Int32)) (by first | rfl | (split <;> split <;> first | rfl | omega | (exfalso; simp_all))) ?_
  refine z_istore_n hX dX1_price_17 18 rfl (i := 3) rfl (Nat.le_of_ble_eq_true rfl) rfl (L' := [(0, .ref t), (1, .ref s), (2, .int (nI a)), (3, .int (if 0 < ((s_sold a) - (tk a)) then ((s_sold a) - (tk a)) else 0 : Int32))]) rfl ?_
  refine z_iconst hX dX1_price_18 19 rfl zki_0 ?_
  refine z_aload_n hX dX1_price_19 20 rfl (i := 0) rfl 0 rfl ?_
  refine z_getf hX fX1_11 ht.o dX1_price_20 23 rfl (x := .ref (B 1 0)) rfl ?_
  refine z_iload_n hX dX1_price_23 24 rfl (i := 2) rfl 2 rfl ?_
  refine z_aaldF hX 2 rfl rfl ht.c0 (j := a) (by omega) (by decide) rfl dX1_price_24 25 rfl ?_
  refine z_iconst hX dX1_price_25 26 rfl zki_0 ?_
  refine z_ialdF hX (ht.fc a (by omega)) (j := 0) (by omega) (by decide) dX1_price_26 27 rfl (w := N (2 + a)) rfl ?_
  refine z_aload_n hX dX1_price_27 28 rfl (i := 0) rfl 0 rfl ?_
  refine z_iload_n hX dX1_price_28 29 rfl (i := 2) rfl 2 rfl ?_
  refine z_callVp hX cwX1_132 (w := .int (x1_shocks N sh K a)) (met_X1_shocks hG ht hN a (by omega)) ht.o rfl rfl dX1_price_29 32 rfl rfl rfl (Nat.le_of_ble_eq_true rfl) (by decide) ⟨Nat.zero_le _, Nat.zero_le _⟩ ?_
  refine z_isub hX dX1_price_32 33 rfl (w := (N (2 + a)) - (x1_shocks N sh K a)) rfl ?_
  refine z_aload_n hX dX1_price_33 34 rfl (i := 0) rfl 0 rfl ?_
  refine z_getf hX fX1_11 ht.o dX1_price_34 37 rfl (x := .ref (B 1 0)) rfl ?_
  refine z_iload_n hX dX1_price_37 38 rfl (i := 2) rfl 2 rfl ?_
  refine z_aaldF hX 2 rfl rfl ht.c0 (j := a) (by omega) (by decide) rfl dX1_price_38 39 rfl ?_
  refine z_iconst hX dX1_price_39 40 rfl zki_1 ?_
  refine z_ialdF hX (ht.fc a (by omega)) (j := 1) (by omega) (by decide) dX1_price_40 41 rfl (w := N (6 + a)) rfl ?_
  refine z_iload_n hX dX1_price_41 42 rfl (i := 3) rfl 3 rfl ?_
  refine z_imul hX dX1_price_42 43 rfl (w := (N (6 + a)) * (if 0 < ((s_sold a) - (tk a)) then ((s_sold a) - (tk a)) else 0 : Int32)) rfl ?_
  refine z_isub hX dX1_price_43 44 rfl (w := ((N (2 + a)) - (x1_shocks N sh K a)) - ((N (6 + a)) * (if 0 < ((s_sold a) - (tk a)) then ((s_sold a) - (tk a)) else 0 : Int32))) rfl ?_
  refine z_mmax hX q636 q637 q113 q638 dX1_price_44 47 rfl (by decide) (Nat.le_of_ble_eq_true rfl) (by omega) (by omega) (w := (if 0 < (((N (2 + a)) - (x1_shocks N sh K a)) - ((N (6 + a)) * (if 0 < ((s_sold a) - (tk a)) then ((s_sold a) - (tk a)) else 0 : Int32))) then (((N (2 + a)) - (x1_shocks N sh K a)) - ((N (6 + a)) * (if 0 < ((s_sold a) - (tk a)) then ((s_sold a) - (tk a)) else 0 : Int32))) else 0 : Int32)) (by first | rfl | (split <;> split <;> first | rfl | omega | (exfalso; simp_all))) ?_
  exact z_iret hX hQ (Nat.zero_le _) (Nat.zero_le _) rfl dX1_price_47 ⟨rfl, rfl⟩
def x1_calmPrice (N : Nat → Int32) (sh : Nat → Int32) (K : Nat → Nat) (a : Nat) : Int32 := (if 0 < ((N (2 + a)) - (x1_shocks N sh K a)) then ((N (2 + a)) - (x1_shocks N sh K a)) else 0 : Int32)
set_option maxHeartbeats 4000000 in
theorem met_X1_calmPrice {g : Zg} (hG : zG g) {G : zHG} {q t : Nat} {B : Nat → Nat → Nat} {N tk cp sh pr : Nat → Int32} {fc gn : Int32} (ht : zTo g G q t B N tk cp sh pr fc gn) {A H : Nat} {K : Nat → Nat} (hN : zWf N A H K) (a : Nat) (h_a : a < 4)  : ZM g yX1_calmPrice cX1_calmPrice 2 (some FieldType.int) 4 0 0 [.ref t, .int (nI a)] G (zRet (some (.int (x1_calmPrice N sh K a))) G) := by
  unfold x1_calmPrice
  have hN2 := hN.2.1
  have hN4 := hN.2.2.2.1
  refine ZM_mk hG (by decide) (Nat.le_of_ble_eq_true rfl) ?_
  intro X hX hname hQ
  show ZW g X 0 0 G 0 [(0, .ref t), (1, .int (nI a))] []
  refine z_iconst hX dX1_calmPrice_0 1 rfl zki_0 ?_
  refine z_aload_n hX dX1_calmPrice_1 2 rfl (i := 0) rfl 0 rfl ?_
  refine z_getf hX fX1_11 ht.o dX1_calmPrice_2 5 rfl (x := .ref (B 1 0)) rfl ?_
  refine z_iload_n hX dX1_calmPrice_5 6 rfl (i := 1) rfl 1 rfl ?_
  refine z_aaldF hX 2 rfl rfl ht.c0 (j := a) (by omega) (by decide) rfl dX1_calmPrice_6 7 rfl ?_
  refine z_iconst hX dX1_calmPrice_7 8 rfl zki_0 ?_
  refine z_ialdF hX (ht.fc a (by omega)) (j := 0) (by omega) (by decide) dX1_calmPrice_8 9 rfl (w := N (2 + a)) rfl ?_
  refine z_aload_n hX dX1_calmPrice_9 10 rfl (i := 0) rfl 0 rfl ?_
  refine z_iload_n hX dX1_calmPrice_10 11 rfl (i := 1) rfl 1 rfl ?_
  refine z_callVp hX cwX1_132 (w := .int (x1_shocks N sh K a)) (met_X1_shocks hG ht hN a (by omega)) ht.o rfl rfl dX1_calmPrice_11 14 rfl rfl rfl (Nat.le_of_ble_eq_true rfl) (by decide) ⟨Nat.zero_le _, Nat.zero_le _⟩ ?_
  refine z_isub hX dX1_calmPrice_14 15 rfl (w := (N (2 + a)) - (x1_shocks N sh K a)) rfl ?_
  refine z_mmax hX q636 q637 q113 q638 dX1_calmPrice_15 18 rfl (by decide) (Nat.le_of_ble_eq_true rfl) (by omega) (by omega) (w := (if 0 < ((N (2 + a)) - (x1_shocks N sh K a)) then ((N (2 + a)) - (x1_shocks N sh K a)) else 0 : Int32)) (by first | rfl | (split <;> split <;> first | rfl | omega | (exfalso; simp_all))) ?_
  exact z_iret hX hQ (Nat.zero_le _) (Nat.zero_le _) rfl dX1_calmPrice_18 ⟨rfl, rfl⟩
def x1_prices_l2 (N : Nat → Int32) (tk : Nat → Int32) (sh : Nat → Int32) (s_sold : Nat → Int32) (K : Nat → Nat) (ini : Nat → Int32) (k : Nat) : Nat → Int32 := zfold k (fun j1 cj1 => upd cj1 j1 (x1_price N tk sh s_sold K j1)) ini
theorem x1_prices_l2_0 (N : Nat → Int32) (tk : Nat → Int32) (sh : Nat → Int32) (s_sold : Nat → Int32) (K : Nat → Nat) (ini : Nat → Int32) : x1_prices_l2 N tk sh s_sold K ini 0 = ini := (zfold_0 _ _).trans (Eq.refl _)
def x1_prices_pr (N : Nat → Int32) (tk : Nat → Int32) (sh : Nat → Int32) (pr : Nat → Int32) (s_sold : Nat → Int32) (A : Nat) (K : Nat → Nat) : Nat → Int32 := x1_prices_l2 N tk sh s_sold K pr A
set_option maxHeartbeats 4000000 in
theorem met_X1_prices {g : Zg} (hG : zG g) {G0 : zHG} {q t : Nat} {B : Nat → Nat → Nat} {N tk cp sh pr : Nat → Int32} {fc gn : Int32} {ks : Nat × Nat} {s : Nat} {bs : Nat} {s_sold : Nat → Int32} {s_fallen : Int32} (ht : zTo g G0 q t B N tk cp sh pr fc gn) (hs : zSt g G0 ks s bs s_sold s_fallen) {A H : Nat} {K : Nat → Nat} (hN : zWf N A H K) (ne_t_s : (q, 0) ≠ ks)  : ZM g yX1_prices cX1_prices 3 none 5 0 0 [.ref t, .ref s] G0 (fun r G' => r = none ∧ (zTo g G' q t B N tk cp sh (x1_prices_pr N tk sh pr s_sold A K) fc gn ∧ zSt g G' ks s bs s_sold s_fallen ∧ zFrK [(q, 0)] G0 G')) := by
  unfold x1_prices_pr
  have hN2 := hN.2.1
  have hN4 := hN.2.2.2.1
  refine ZM_mk hG (by decide) (Nat.le_of_ble_eq_true rfl) ?_
  intro X hX hname hQ
  obtain ⟨G, hGe⟩ : ∃ z, z = G0 := ⟨_, rfl⟩
  have hM : zTo g G q t B N tk cp sh pr fc gn ∧ zSt g G ks s bs s_sold s_fallen ∧ zFrK [(q, 0)] G0 G := by rw [hGe]; exact ⟨ht, hs, zFrK.rf⟩
  show ZW g X 0 0 G0 0 [(0, .ref t), (1, .ref s)] []
  rw [← hGe]
  refine z_iconst hX dX1_prices_0 1 rfl zki_0 ?_
  refine z_istore_n hX dX1_prices_1 2 rfl (i := 2) rfl (Nat.le_of_ble_eq_true rfl) rfl (L' := [(0, .ref t), (1, .ref s), (2, .int 0)]) rfl ?_
  have E2 : ∀ G : zHG, zTo g G q t B N tk cp sh (x1_prices_l2 N tk sh s_sold K pr A) fc gn ∧ zSt g G ks s bs s_sold s_fallen ∧ zFrK [(q, 0)] G0 G → ZW g X 0 0 G 28 [(0, .ref t), (1, .ref s), (2, .int (nI A))] [] := by
    intro G hM
    exact z_vret hX hQ (Nat.zero_le _) (Nat.zero_le _) rfl dX1_prices_28 ⟨rfl, hM⟩
  have Lp3 : ∀ k j1 : Nat, j1 + k = A → ∀ G : zHG, zTo g G q t B N tk cp sh (x1_prices_l2 N tk sh s_sold K pr j1) fc gn ∧ zSt g G ks s bs s_sold s_fallen ∧ zFrK [(q, 0)] G0 G → ZW g X 0 0 G 2 [(0, .ref t), (1, .ref s), (2, .int (nI j1))] [] := by
    intro k
    induction k with
    | zero =>
      intro j1 hj1 G hM
      rw [show j1 = A from by omega] at hM ⊢
      refine z_iload_n hX dX1_prices_2 3 rfl (i := 2) rfl 2 rfl ?_
      refine z_aload_n hX dX1_prices_3 4 rfl (i := 0) rfl 0 rfl ?_
      refine z_getf hX fX1_70 hM.1.o dX1_prices_4 7 rfl (x := .int (nI A)) (congrArg (fun z => some (Value.int z)) hN.1) ?_
      refine z_icmp_geN hX A A (by omega) (by omega) dX1_prices_7 10 rfl (tgt := 28) (by decide) (fun c4 => ?_) (fun c4 => ?_)
      · exact E2 _ hM
      · exact absurd c4 (by omega)
    | succ k ih =>
      intro j1 hj1 G hM
      refine z_iload_n hX dX1_prices_2 3 rfl (i := 2) rfl 2 rfl ?_
      refine z_aload_n hX dX1_prices_3 4 rfl (i := 0) rfl 0 rfl ?_
      refine z_getf hX fX1_70 hM.1.o dX1_prices_4 7 rfl (x := .int (nI A)) (congrArg (fun z => some (Value.int z)) hN.1) ?_
      refine z_icmp_geN hX j1 A (by omega) (by omega) dX1_prices_7 10 rfl (tgt := 28) (by decide) (fun c5 => ?_) (fun c5 => ?_)
      · exact absurd c5 (by omega)
      ·
        refine z_aload_n hX dX1_prices_10 11 rfl (i := 0) rfl 0 rfl ?_
        refine z_getf hX fX1_60 hM.1.o dX1_prices_11 14 rfl (x := .ref (B 9 0)) rfl ?_
        refine z_iload_n hX dX1_prices_14 15 rfl (i := 2) rfl 2 rfl ?_
        refine z_aload_n hX dX1_prices_15 16 rfl (i := 0) rfl 0 rfl ?_
        refine z_aload_n hX dX1_prices_16 17 rfl (i := 1) rfl 1 rfl ?_
        refine z_iload_n hX dX1_prices_17 18 rfl (i := 2) rfl 2 rfl ?_
        refine z_callVp hX cwX1_135 (w := .int (x1_price N tk sh s_sold K j1)) (met_X1_price hG hM.1 hM.2.1 hN j1 (by omega)) hM.1.o rfl rfl dX1_prices_18 21 rfl rfl rfl (Nat.le_of_ble_eq_true rfl) (by decide) ⟨Nat.zero_le _, Nat.zero_le _⟩ ?_
        refine t_ast_priced hX hM.1 j1 (by omega) dX1_prices_21 22 rfl (fun G hw hf => ?_)
        have hM : zTo g G q t B N tk cp sh (upd (x1_prices_l2 N tk sh s_sold K pr j1) j1 (x1_price N tk sh s_sold K j1)) fc gn ∧ zSt g G ks s bs s_sold s_fallen ∧ zFrK [(q, 0)] G0 G := ⟨hw, hM.2.1.kp (hf.kp (zni1 (Ne.symm ne_t_s) zni0)), hM.2.2.step hf List.mem_cons_self⟩
        refine z_iinc hX dX1_prices_22 25 rfl 2 rfl (w := nI (j1 + 1)) (nI_1 j1) (Nat.le_of_ble_eq_true rfl) rfl (L' := [(0, .ref t), (1, .ref s), (2, .int (nI (j1 + 1)))]) rfl ?_
        refine z_goto hX dX1_prices_25 (tgt := 2) (by decide) ?_
        exact ih (j1 + 1) (by omega) _ hM
  have hM : zTo g G q t B N tk cp sh (x1_prices_l2 N tk sh s_sold K pr 0) fc gn ∧ zSt g G ks s bs s_sold s_fallen ∧ zFrK [(q, 0)] G0 G := by simpa only [x1_prices_l2_0] using hM
  exact Lp3 A 0 (by omega) _ hM
def x1_worth_l21 (N : Nat → Int32) (pr : Nat → Int32) (h : Nat) (ini : Int32) (k : Nat) : Int32 := zfold k (fun j1 cj1 => cj1 + ((N (40 + (4 * h) + j1)) * (pr j1))) ini
theorem x1_worth_l21_0 (N : Nat → Int32) (pr : Nat → Int32) (h : Nat) (ini : Int32) : x1_worth_l21 N pr h ini 0 = ini := (zfold_0 _ _).trans (Eq.refl _)
def x1_worth_l59 (N : Nat → Int32) (h : Nat) (fallen : Int32) (ini : Int32) (k : Nat) : Int32 := zfold k (fun j2 cj2 => cj2 + ((if x0_has fallen (nI j2) then 0 else N (64 + (6 * j2) + h) : Int32) - (N (64 + (6 * h) + j2)))) ini
theorem x1_worth_l59_0 (N : Nat → Int32) (h : Nat) (fallen : Int32) (ini : Int32) : x1_worth_l59 N h fallen ini 0 = ini := (zfold_0 _ _).trans (Eq.refl _)
def x1_worth (N : Nat → Int32) (pr : Nat → Int32) (A : Nat) (H : Nat) (h : Nat) (fallen : Int32) : Int32 := x1_worth_l59 N h fallen (x1_worth_l21 N pr h ((N (10 + (5 * h))) - (N (10 + (5 * h) + 1))) A) H
set_option maxHeartbeats 4000000 in
theorem met_X1_worth {g : Zg} (hG : zG g) {G : zHG} {q t : Nat} {B : Nat → Nat → Nat} {N tk cp sh pr : Nat → Int32} {fc gn : Int32} (ht : zTo g G q t B N tk cp sh pr fc gn) {A H : Nat} {K : Nat → Nat} (hN : zWf N A H K) (h : Nat) (fallen : Int32) (h_h : h < 6)  : ZM g yX1_worth cX1_worth 5 (some FieldType.int) 1 0 0 [.ref t, .int (nI h), .int fallen] G (zRet (some (.int (x1_worth N pr A H h fallen))) G) := by
  unfold x1_worth
  have hN2 := hN.2.1
  have hN4 := hN.2.2.2.1
  refine ZM_mk hG (by decide) (Nat.le_of_ble_eq_true rfl) ?_
  intro X hX hname hQ
  show ZW g X 0 0 G 0 [(0, .ref t), (1, .int (nI h)), (2, .int fallen)] []
  refine z_aload_n hX dX1_worth_0 1 rfl (i := 0) rfl 0 rfl ?_
  refine z_getf hX fX1_16 ht.o dX1_worth_1 4 rfl (x := .ref (B 2 0)) rfl ?_
  refine z_iload_n hX dX1_worth_4 5 rfl (i := 1) rfl 1 rfl ?_
  refine z_aaldF hX 2 rfl rfl ht.o0 (j := h) (by omega) (by decide) rfl dX1_worth_5 6 rfl ?_
  refine z_iconst hX dX1_worth_6 7 rfl zki_0 ?_
  refine z_ialdF hX (ht.fo h (by omega)) (j := 0) (by omega) (by decide) dX1_worth_7 8 rfl (w := N (10 + (5 * h))) rfl ?_
  refine z_aload_n hX dX1_worth_8 9 rfl (i := 0) rfl 0 rfl ?_
  refine z_getf hX fX1_16 ht.o dX1_worth_9 12 rfl (x := .ref (B 2 0)) rfl ?_
  refine z_iload_n hX dX1_worth_12 13 rfl (i := 1) rfl 1 rfl ?_
  refine z_aaldF hX 2 rfl rfl ht.o0 (j := h) (by omega) (by decide) rfl dX1_worth_13 14 rfl ?_
  refine z_iconst hX dX1_worth_14 15 rfl zki_1 ?_
  refine z_ialdF hX (ht.fo h (by omega)) (j := 1) (by omega) (by decide) dX1_worth_15 16 rfl (w := N (10 + (5 * h) + 1)) rfl ?_
  refine z_isub hX dX1_worth_16 17 rfl (w := (N (10 + (5 * h))) - (N (10 + (5 * h) + 1))) rfl ?_
  refine z_istore_n hX dX1_worth_17 18 rfl (i := 3) rfl (Nat.le_of_ble_eq_true rfl) rfl (L' := [(0, .ref t), (1, .int (nI h)), (2, .int fallen), (3, .int ((N (10 + (5 * h))) - (N (10 + (5 * h) + 1))))]) rfl ?_
  refine z_iconst hX dX1_worth_18 19 rfl zki_0 ?_
  refine z_istore hX dX1_worth_19 21 rfl (Nat.le_of_ble_eq_true rfl) rfl (L' := [(0, .ref t), (1, .int (nI h)), (2, .int fallen), (3, .int ((N (10 + (5 * h))) - (N (10 + (5 * h) + 1)))), (4, .int 0)]) rfl ?_
  have E2 : ZW g X 0 0 G 56 [(0, .ref t), (1, .int (nI h)), (2, .int fallen), (3, .int (x1_worth_l21 N pr h ((N (10 + (5 * h))) - (N (10 + (5 * h) + 1))) A)), (4, .int (nI A))] [] := by
    refine z_iconst hX dX1_worth_56 57 rfl zki_0 ?_
    refine z_istore hX dX1_worth_57 59 rfl (Nat.le_of_ble_eq_true rfl) rfl (L' := [(0, .ref t), (1, .int (nI h)), (2, .int fallen), (3, .int (x1_worth_l21 N pr h ((N (10 + (5 * h))) - (N (10 + (5 * h) + 1))) A)), (4, .int 0)]) rfl ?_
    have E5 : ZW g X 0 0 G 109 [(0, .ref t), (1, .int (nI h)), (2, .int fallen), (3, .int (x1_worth_l59 N h fallen (x1_worth_l21 N pr h ((N (10 + (5 * h))) - (N (10 + (5 * h) + 1))) A) H)), (4, .int (nI H))] [] := by
      refine z_iload_n hX dX1_worth_109 110 rfl (i := 3) rfl 3 rfl ?_
      exact z_iret hX hQ (Nat.zero_le _) (Nat.zero_le _) rfl dX1_worth_110 ⟨rfl, rfl⟩
    have Lp6 : ∀ k j4 : Nat, j4 + k = H → ZW g X 0 0 G 59 [(0, .ref t), (1, .int (nI h)), (2, .int fallen), (3, .int (x1_worth_l59 N h fallen (x1_worth_l21 N pr h ((N (10 + (5 * h))) - (N (10 + (5 * h) + 1))) A) j4)), (4, .int (nI j4))] [] := by
      intro k
      induction k with
      | zero =>
        intro j4 hj4
        rw [show j4 = H from by omega]
        refine z_iload hX dX1_worth_59 61 rfl 4 rfl ?_
        refine z_aload_n hX dX1_worth_61 62 rfl (i := 0) rfl 0 rfl ?_
        refine z_getf hX fX1_74 ht.o dX1_worth_62 65 rfl (x := .int (nI H)) (congrArg (fun z => some (Value.int z)) hN.2.2.1) ?_
        refine z_icmp_geN hX H H (by omega) (by omega) dX1_worth_65 68 rfl (tgt := 109) (by decide) (fun c7 => ?_) (fun c7 => ?_)
        · exact E5
        · exact absurd c7 (by omega)
      | succ k ih =>
        intro j4 hj4
        refine z_iload hX dX1_worth_59 61 rfl 4 rfl ?_
        refine z_aload_n hX dX1_worth_61 62 rfl (i := 0) rfl 0 rfl ?_
        refine z_getf hX fX1_74 ht.o dX1_worth_62 65 rfl (x := .int (nI H)) (congrArg (fun z => some (Value.int z)) hN.2.2.1) ?_
        refine z_icmp_geN hX j4 H (by omega) (by omega) dX1_worth_65 68 rfl (tgt := 109) (by decide) (fun c8 => ?_) (fun c8 => ?_)
        · exact absurd c8 (by omega)
        ·
          refine z_iload_n hX dX1_worth_68 69 rfl (i := 3) rfl 3 rfl ?_
          refine z_iload_n hX dX1_worth_69 70 rfl (i := 2) rfl 2 rfl ?_
          refine z_iload hX dX1_worth_70 72 rfl 4 rfl ?_
          refine z_callSNp hX cwX1_139 (w := .int (if x0_has fallen (nI j4) then 1 else 0 : Int32)) (met_X0_has hG fallen (nI j4)) dX1_worth_72 75 rfl rfl rfl (Nat.le_of_ble_eq_true rfl) (by decide) ⟨Nat.zero_le _, Nat.zero_le _⟩ ?_
          have J10 : ZW g X 0 0 G 91 [(0, .ref t), (1, .int (nI h)), (2, .int fallen), (3, .int (x1_worth_l59 N h fallen (x1_worth_l21 N pr h ((N (10 + (5 * h))) - (N (10 + (5 * h) + 1))) A) j4)), (4, .int (nI j4))] [.int (if x0_has fallen (nI j4) then 0 else N (64 + (6 * j4) + h) : Int32), .int (x1_worth_l59 N h fallen (x1_worth_l21 N pr h ((N (10 + (5 * h))) - (N (10 + (5 * h) + 1))) A) j4)] := by
            refine z_aload_n hX dX1_worth_91 92 rfl (i := 0) rfl 0 rfl ?_
            refine z_getf hX fX1_22 ht.o dX1_worth_92 95 rfl (x := .ref (B 4 0)) rfl ?_
            refine z_iload_n hX dX1_worth_95 96 rfl (i := 1) rfl 1 rfl ?_
            refine z_aaldF hX 2 rfl rfl ht.l0 (j := h) (by omega) (by decide) rfl dX1_worth_96 97 rfl ?_
            refine z_iload hX dX1_worth_97 99 rfl 4 rfl ?_
            refine z_ialdF hX (ht.fl h (by omega)) (j := j4) (by omega) (by decide) dX1_worth_99 100 rfl (w := N (64 + (6 * h) + j4)) rfl ?_
            refine z_isub hX dX1_worth_100 101 rfl (w := (if x0_has fallen (nI j4) then 0 else N (64 + (6 * j4) + h) : Int32) - (N (64 + (6 * h) + j4))) rfl ?_
            refine z_iadd hX dX1_worth_101 102 rfl (w := (x1_worth_l59 N h fallen (x1_worth_l21 N pr h ((N (10 + (5 * h))) - (N (10 + (5 * h) + 1))) A) j4) + ((if x0_has fallen (nI j4) then 0 else N (64 + (6 * j4) + h) : Int32) - (N (64 + (6 * h) + j4)))) rfl ?_
            refine z_istore_n hX dX1_worth_102 103 rfl (i := 3) rfl (Nat.le_of_ble_eq_true rfl) rfl (L' := [(0, .ref t), (1, .int (nI h)), (2, .int fallen), (3, .int ((x1_worth_l59 N h fallen (x1_worth_l21 N pr h ((N (10 + (5 * h))) - (N (10 + (5 * h) + 1))) A) j4) + ((if x0_has fallen (nI j4) then 0 else N (64 + (6 * j4) + h) : Int32) - (N (64 + (6 * h) + j4))))), (4, .int (nI j4))]) rfl ?_
            refine z_iinc hX dX1_worth_103 106 rfl 4 rfl (w := nI (j4 + 1)) (nI_1 j4) (Nat.le_of_ble_eq_true rfl) rfl (L' := [(0, .ref t), (1, .int (nI h)), (2, .int fallen), (3, .int ((x1_worth_l59 N h fallen (x1_worth_l21 N pr h ((N (10 + (5 * h))) - (N (10 + (5 * h) + 1))) A) j4) + ((if x0_has fallen (nI j4) then 0 else N (64 + (6 * j4) + h) : Int32) - (N (64 + (6 * h) + j4))))), (4, .int (nI (j4 + 1)))]) rfl ?_
            refine z_goto hX dX1_worth_106 (tgt := 59) (by decide) ?_
            exact ih (j4 + 1) (by omega)
          refine z_if_eqP hX (x0_has fallen (nI j4)) dX1_worth_75 78 rfl (tgt := 82) (by decide) (fun c9 => ?_) (fun c9 => ?_)
          ·
            refine z_aload_n hX dX1_worth_82 83 rfl (i := 0) rfl 0 rfl ?_
            refine z_getf hX fX1_22 ht.o dX1_worth_83 86 rfl (x := .ref (B 4 0)) rfl ?_
            refine z_iload hX dX1_worth_86 88 rfl 4 rfl ?_
            refine z_aaldF hX 2 rfl rfl ht.l0 (j := j4) (by omega) (by decide) rfl dX1_worth_88 89 rfl ?_
            refine z_iload_n hX dX1_worth_89 90 rfl (i := 1) rfl 1 rfl ?_
            refine z_ialdF hX (ht.fl j4 (by omega)) (j := h) (by omega) (by decide) dX1_worth_90 91 rfl (w := N (64 + (6 * j4) + h)) rfl ?_
            exact z_eqL rfl (by first | (simp only [if_neg c9] <;> rfl; done) | grind) J10
          ·
            refine z_iconst hX dX1_worth_78 79 rfl zki_0 ?_
            refine z_goto hX dX1_worth_79 (tgt := 91) (by decide) ?_
            exact z_eqL rfl (by first | (simp only [if_pos c9] <;> rfl; done) | grind) J10
    exact Lp6 H 0 (by omega)
  have Lp3 : ∀ k j1 : Nat, j1 + k = A → ZW g X 0 0 G 21 [(0, .ref t), (1, .int (nI h)), (2, .int fallen), (3, .int (x1_worth_l21 N pr h ((N (10 + (5 * h))) - (N (10 + (5 * h) + 1))) j1)), (4, .int (nI j1))] [] := by
    intro k
    induction k with
    | zero =>
      intro j1 hj1
      rw [show j1 = A from by omega]
      refine z_iload hX dX1_worth_21 23 rfl 4 rfl ?_
      refine z_aload_n hX dX1_worth_23 24 rfl (i := 0) rfl 0 rfl ?_
      refine z_getf hX fX1_70 ht.o dX1_worth_24 27 rfl (x := .int (nI A)) (congrArg (fun z => some (Value.int z)) hN.1) ?_
      refine z_icmp_geN hX A A (by omega) (by omega) dX1_worth_27 30 rfl (tgt := 56) (by decide) (fun c11 => ?_) (fun c11 => ?_)
      · exact E2
      · exact absurd c11 (by omega)
    | succ k ih =>
      intro j1 hj1
      refine z_iload hX dX1_worth_21 23 rfl 4 rfl ?_
      refine z_aload_n hX dX1_worth_23 24 rfl (i := 0) rfl 0 rfl ?_
      refine z_getf hX fX1_70 ht.o dX1_worth_24 27 rfl (x := .int (nI A)) (congrArg (fun z => some (Value.int z)) hN.1) ?_
      refine z_icmp_geN hX j1 A (by omega) (by omega) dX1_worth_27 30 rfl (tgt := 56) (by decide) (fun c12 => ?_) (fun c12 => ?_)
      · exact absurd c12 (by omega)
      ·
        refine z_iload_n hX dX1_worth_30 31 rfl (i := 3) rfl 3 rfl ?_
        refine z_aload_n hX dX1_worth_31 32 rfl (i := 0) rfl 0 rfl ?_
        refine z_getf hX fX1_19 ht.o dX1_worth_32 35 rfl (x := .ref (B 3 0)) rfl ?_
        refine z_iload_n hX dX1_worth_35 36 rfl (i := 1) rfl 1 rfl ?_
        refine z_aaldF hX 2 rfl rfl ht.h0 (j := h) (by omega) (by decide) rfl dX1_worth_36 37 rfl ?_
        refine z_iload hX dX1_worth_37 39 rfl 4 rfl ?_
        refine z_ialdF hX (ht.fh h (by omega)) (j := j1) (by omega) (by decide) dX1_worth_39 40 rfl (w := N (40 + (4 * h) + j1)) rfl ?_
        refine z_aload_n hX dX1_worth_40 41 rfl (i := 0) rfl 0 rfl ?_
        refine z_getf hX fX1_60 ht.o dX1_worth_41 44 rfl (x := .ref (B 9 0)) rfl ?_
        refine z_iload hX dX1_worth_44 46 rfl 4 rfl ?_
        refine z_ialdF hX ht.v9 (j := j1) (by omega) (by decide) dX1_worth_46 47 rfl (w := pr j1) rfl ?_
        refine z_imul hX dX1_worth_47 48 rfl (w := (N (40 + (4 * h) + j1)) * (pr j1)) rfl ?_
        refine z_iadd hX dX1_worth_48 49 rfl (w := (x1_worth_l21 N pr h ((N (10 + (5 * h))) - (N (10 + (5 * h) + 1))) j1) + ((N (40 + (4 * h) + j1)) * (pr j1))) rfl ?_
        refine z_istore_n hX dX1_worth_49 50 rfl (i := 3) rfl (Nat.le_of_ble_eq_true rfl) rfl (L' := [(0, .ref t), (1, .int (nI h)), (2, .int fallen), (3, .int ((x1_worth_l21 N pr h ((N (10 + (5 * h))) - (N (10 + (5 * h) + 1))) j1) + ((N (40 + (4 * h) + j1)) * (pr j1)))), (4, .int (nI j1))]) rfl ?_
        refine z_iinc hX dX1_worth_50 53 rfl 4 rfl (w := nI (j1 + 1)) (nI_1 j1) (Nat.le_of_ble_eq_true rfl) rfl (L' := [(0, .ref t), (1, .int (nI h)), (2, .int fallen), (3, .int ((x1_worth_l21 N pr h ((N (10 + (5 * h))) - (N (10 + (5 * h) + 1))) j1) + ((N (40 + (4 * h) + j1)) * (pr j1)))), (4, .int (nI (j1 + 1)))]) rfl ?_
        refine z_goto hX dX1_worth_53 (tgt := 21) (by decide) ?_
        exact ih (j1 + 1) (by omega)
  exact Lp3 A 0 (by omega)
def x1_worth_2 (N : Nat → Int32) (tk : Nat → Int32) (sh : Nat → Int32) (pr : Nat → Int32) (s_sold : Nat → Int32) (s_fallen : Int32) (A : Nat) (H : Nat) (K : Nat → Nat) (h : Nat) : Int32 := x1_worth N (x1_prices_pr N tk sh pr s_sold A K) A H h s_fallen
def x1_worth_2_pr (N : Nat → Int32) (tk : Nat → Int32) (sh : Nat → Int32) (pr : Nat → Int32) (s_sold : Nat → Int32) (A : Nat) (K : Nat → Nat) (h : Nat) : Nat → Int32 := x1_prices_pr N tk sh pr s_sold A K
set_option maxHeartbeats 4000000 in
theorem met_X1_worth_2 {g : Zg} (hG : zG g) {G0 : zHG} {q t : Nat} {B : Nat → Nat → Nat} {N tk cp sh pr : Nat → Int32} {fc gn : Int32} {ks : Nat × Nat} {s : Nat} {bs : Nat} {s_sold : Nat → Int32} {s_fallen : Int32} (ht : zTo g G0 q t B N tk cp sh pr fc gn) (hs : zSt g G0 ks s bs s_sold s_fallen) {A H : Nat} {K : Nat → Nat} (hN : zWf N A H K) (ne_t_s : (q, 0) ≠ ks) (h : Nat) (h_h : h < 6)  : ZM g yX1_worth_2 cX1_worth_2 3 (some FieldType.int) 6 0 0 [.ref t, .ref s, .int (nI h)] G0 (fun r G' => r = some (.int (x1_worth_2 N tk sh pr s_sold s_fallen A H K h)) ∧ (zTo g G' q t B N tk cp sh (x1_worth_2_pr N tk sh pr s_sold A K h) fc gn ∧ zSt g G' ks s bs s_sold s_fallen ∧ zFrK [(q, 0)] G0 G')) := by
  unfold x1_worth_2 x1_worth_2_pr
  have hN2 := hN.2.1
  have hN4 := hN.2.2.2.1
  refine ZM_mk hG (by decide) (Nat.le_of_ble_eq_true rfl) ?_
  intro X hX hname hQ
  obtain ⟨G, hGe⟩ : ∃ z, z = G0 := ⟨_, rfl⟩
  have hM : zTo g G q t B N tk cp sh pr fc gn ∧ zSt g G ks s bs s_sold s_fallen ∧ zFrK [(q, 0)] G0 G := by rw [hGe]; exact ⟨ht, hs, zFrK.rf⟩
  show ZW g X 0 0 G0 0 [(0, .ref t), (1, .ref s), (2, .int (nI h))] []
  rw [← hGe]
  refine z_aload_n hX dX1_worth_2_0 1 rfl (i := 0) rfl 0 rfl ?_
  refine z_aload_n hX dX1_worth_2_1 2 rfl (i := 1) rfl 1 rfl ?_
  refine z_callV hX cwX1_143 (met_X1_prices hG hM.1 hM.2.1 hN ne_t_s) hM.1.o rfl rfl dX1_worth_2_2 5 rfl rfl rfl (Nat.le_of_ble_eq_true rfl) (by decide) ⟨by omega, by omega⟩ (fun r G hP => ?_)
  obtain ⟨rfl, hP⟩ := hP
  have hM : zTo g G q t B N tk cp sh (x1_prices_pr N tk sh pr s_sold A K) fc gn ∧ zSt g G ks s bs s_sold s_fallen ∧ zFrK [(q, 0)] G0 G := ⟨hP.1, hP.2.1, hM.2.2.stepL hP.2.2 (zml1 (Or.inl List.mem_cons_self) zml0)⟩
  show ZW g X 0 0 G 5 [(0, .ref t), (1, .ref s), (2, .int (nI h))] []
  refine z_aload_n hX dX1_worth_2_5 6 rfl (i := 0) rfl 0 rfl ?_
  refine z_iload_n hX dX1_worth_2_6 7 rfl (i := 2) rfl 2 rfl ?_
  refine z_aload_n hX dX1_worth_2_7 8 rfl (i := 1) rfl 1 rfl ?_
  refine z_getfN hX fX1_121 hM.2.1.o dX1_worth_2_8 11 rfl (x := .int s_fallen) rfl ?_
  refine z_callVp hX cwX1_147 (w := .int (x1_worth N (x1_prices_pr N tk sh pr s_sold A K) A H h s_fallen)) (met_X1_worth hG hM.1 hN h s_fallen (by omega)) hM.1.o rfl rfl dX1_worth_2_11 14 rfl rfl rfl (Nat.le_of_ble_eq_true rfl) (by decide) ⟨Nat.zero_le _, Nat.zero_le _⟩ ?_
  exact z_iret hX hQ (Nat.zero_le _) (Nat.zero_le _) rfl dX1_worth_2_14 ⟨rfl, hM⟩
