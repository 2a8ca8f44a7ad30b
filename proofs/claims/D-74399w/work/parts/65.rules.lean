set_option maxRecDepth 100000
def dkwX7_init_0 : List UInt8 := [42, 183, 0, 3, 42, 27, 181, 0, 9, 42, 28, 181, 0, 15, 177]
abbrev dktX7_init_0 : List UInt8 := dkwX7_init_0 ++ []
theorem dksX7_init_0 : cX7_init.data.toList.drop 0 = dktX7_init_0 := by decide +kernel
theorem dX7_init_0 : decode cX7_init 0 = .ok (.aload_n 0, 1) := dk_42 (dk_at dksX7_init_0 0 rfl rfl)
theorem dX7_init_1 : decode cX7_init 1 = .ok (.invokespecial 3, 3) := dk_183 0 3 (dk_at dksX7_init_0 1 rfl rfl)
theorem dX7_init_4 : decode cX7_init 4 = .ok (.aload_n 0, 1) := dk_42 (dk_at dksX7_init_0 4 rfl rfl)
theorem dX7_init_5 : decode cX7_init 5 = .ok (.iload_n 1, 1) := dk_27 (dk_at dksX7_init_0 5 rfl rfl)
theorem dX7_init_6 : decode cX7_init 6 = .ok (.putfield 9, 3) := dk_181 0 9 (dk_at dksX7_init_0 6 rfl rfl)
theorem dX7_init_9 : decode cX7_init 9 = .ok (.aload_n 0, 1) := dk_42 (dk_at dksX7_init_0 9 rfl rfl)
theorem dX7_init_10 : decode cX7_init 10 = .ok (.iload_n 2, 1) := dk_28 (dk_at dksX7_init_0 10 rfl rfl)
theorem dX7_init_11 : decode cX7_init 11 = .ok (.putfield 15, 3) := dk_181 0 15 (dk_at dksX7_init_0 11 rfl rfl)
theorem dX7_init_14 : decode cX7_init 14 = .ok (.return_, 1) := dk_177 (dk_at dksX7_init_0 14 rfl rfl)
theorem dX7_shock_0 : decode cX7_shock 0 = .ok (.iconst 0, 1) := by decide +kernel
theorem dX7_shock_1 : decode cX7_shock 1 = .ok (.ireturn, 1) := by decide +kernel
theorem dX7_cap_0 : decode cX7_cap 0 = .ok (.sipush 360, 3) := by decide +kernel
theorem dX7_cap_3 : decode cX7_cap 3 = .ok (.ireturn, 1) := by decide +kernel

def zCU (own : String) (idx : Nat) (C owner : String) (x y : MethodName) (b : ByteArray) (nl : Nat) (rt : Option FieldType) (n : Nat) : Prop :=
  GoodIn lw_all (va_wsU own idx C owner x y (ws_ y b nl rt)) ∧ ((Jvm.Cond.instanceMethod ⟨owner, x.name, x.desc⟩ ∈ lw_all ∧ ∃ b0 m0 r0, Jvm.Cond.code ⟨owner, x.name, x.desc⟩ b0 m0 r0 ∈ lw_all) ∨ Jvm.Cond.declares ⟨owner, x.name, x.desc⟩ ∈ lw_tbl) ∧ (owner ≠ "java/lang/invoke/MethodHandle" ∧ owner ≠ "java/lang/invoke/VarHandle" ∧ (parseMethodDescriptor x.desc).map (fun d => d.parameters.length) = some n)
theorem lw_U {own : String} {idx : Nat} {C owner : String} {x y : MethodName} {b : ByteArray} {L : Nat} {r : Option FieldType} (h1 : Jvm.Cond.methodLink own idx x ∈ lw_all) (h2 : Jvm.Cond.sameMethod x.cls owner x.name x.desc ∈ lw_all) (h3 : Jvm.Cond.selects C x y ∈ lw_all) (h4 : Jvm.Cond.instanceMethod y ∈ lw_all) (h5 : Jvm.Cond.initialized y.cls ∈ lw_all) (h6 : Jvm.Cond.code y b L r ∈ lw_all) : GoodIn lw_all (va_wsU own idx C owner x y (ws_ y b L r)) := by
  refine lw_app ?_ (lw_meth h6)
  intro w hw
  simp only [List.mem_cons, List.not_mem_nil, or_false] at hw
  rcases hw with e | e | e | e | e
  · rw [e]; exact h1
  · rw [e]; exact h2
  · rw [e]; exact h3
  · rw [e]; exact h4
  · rw [e]; exact h5
theorem lw_SU {own : String} {idx : Nat} {y : MethodName} {b : ByteArray} {L : Nat} {r : Option FieldType} (h1 : Jvm.Cond.methodLink own idx y ∈ lw_all) (h2 : Jvm.Cond.sameMethod y.cls y.cls y.name y.desc ∈ lw_all) (h3 : Jvm.Cond.superclass own y.cls ∈ lw_all) (h4 : Jvm.Cond.instanceMethod y ∈ lw_all) (h5 : Jvm.Cond.initialized y.cls ∈ lw_all) (h6 : Jvm.Cond.code y b L r ∈ lw_all) : GoodIn lw_all (va_wsSU own idx y (ws_ y b L r)) := by
  refine lw_app ?_ (lw_meth h6)
  intro w hw
  simp only [List.mem_cons, List.not_mem_nil, or_false] at hw
  rcases hw with e | e | e | e | e
  · rw [e]; exact h1
  · rw [e]; exact h2
  · rw [e]; exact h3
  · rw [e]; exact h4
  · rw [e]; exact h5
section ZRules
variable {g : Zg} {X : Zx} {own : String} {cc : ByteArray} {nL : Nat} {ret : Option FieldType} {d mc ms : Nat} {u v pc : Nat} {G : zHG} {L : List (Nat × Value)} {st rest : List Value} {y : MethodName} {b : ByteArray} {nl n idx d' mc' ms' : Nat} {rt : Option FieldType} {P : Option Value → zHG → Prop} {As : List Value}
theorem z_callU (hX : zOk g X own cc nL ret d mc ms) {C owner : String} {x : MethodName} (cw : zCU own idx C owner x y b nl rt n) {a ci : Nat} {lb : Nat × Nat} {fs : List Value} {q : vw_C} (hM : ZM g y b nl rt d' mc' ms' (.ref a :: As) G P) (hg : G a = some (lb, zO ci fs)) (hc : zcl[ci]? = some q) (hqC : q.1 = C) (hdg : decode cc pc = .ok (.invokevirtual idx, 3)) (p : Nat) (hp : pc + 3 = p) (hst : st = As.reverse ++ .ref a :: rest) (hn : As.length = n) (hcat : (rest.map fun v => v.category).sum ≤ 8) (hd : d' + 1 ≤ d ∧ nl ≤ 45) (hb : u + mc' ≤ mc ∧ v + ms' ≤ ms) (k : ∀ (r : Option Value) (G' : zHG), P r G' → ZW g X (u + mc') (v + ms') G' p L (r.toList ++ rest)) : ZW g X u v G pc L st := by
  subst hp
  subst hst
  intro H locs ls cs ss hR hS hu hv hL
  obtain ⟨cw1, cwd, cw2⟩ := cw
  have hdecl : va_Decl (xS X) ⟨owner, x.name, x.desc⟩ := by
    rcases cwd with ⟨h1, b0, m0, r0, h2⟩ | h
    · exact va_Decl.of (hX.hts _ h1) (hX.hts _ h2)
    · exact va_Decl.abs (va_Nw.warmD hX.st.1 (va_Nw.of rfl (hX.G.2.1 _ h)))
  have ok : ∀ w ∈ va_wsU own idx C owner x y (ws_ y b nl rt), w.before (xA X) (xS X) = true := fun w h => hX.hts w (cw1 w h).1
  have hGd : GoodIn lw_all (ws_ y b nl rt) := fun w h => cw1 w (by unfold va_wsU; exact List.mem_append_right _ h)
  have hcd : Cond.code y b nl rt ∈ ws_ y b nl rt := List.mem_cons_self
  have hcw : va_CU (xR X) (xS X) (xA X) own C owner idx x y b nl rt (ws_ y b nl rt) (zroom d' mc' ms') mc' ms' n := by
    refine ⟨⟨rfl, rfl, by rw [hX.room]; exact hd.1, by rw [hX.room]; show 8 + (nl + 11) + 64 * d' ≤ 64 * d; omega, pay_in hX.hts hGd, hcd⟩, hX.hts _ (hGd _ hcd).1, ok _ (by simp [va_wsU]), ⟨cw2.1, cw2.2.1⟩, fun sig h => ?_, ok _ (by simp [va_wsU]), ok _ (by simp [va_wsU]), hdecl, ok _ (by simp [va_wsU]), ok _ (by simp [va_wsU])⟩
    have h2 := cw2.2.2
    rw [h] at h2
    exact (Option.some.inj h2).symm
  refine z_cont hX.st hS hu hv hL (va_runU ⟨hX.exec, hX.code, hX.maxL, hX.ow, hX.hts⟩ hM hcw ⟨zPc_blind, by rw [← hqC]; exact z_recv hX hR hg hc, (z_preS hX hR hS).2⟩ rfl hn (by rw [← hX.maxL]; exact hL.1) rfl (lv_room hcat) hdg (by rw [hX.room]; exact ⟨Nat.le_trans (Nat.add_le_add_right hu _) hb.1, Nat.le_trans (Nat.add_le_add_right hv _) hb.2⟩)) k
/-- super.m(..) -/
theorem z_callSU (hX : zOk g X own cc nL ret d mc ms) (cw : GoodIn lw_all (va_wsSU own idx y (ws_ y b nl rt)) ∧ (y.name ≠ "<init>" ∧ (parseMethodDescriptor y.desc).map (fun d => d.parameters.length) = some n)) {a ci : Nat} {lb : Nat × Nat} {fs : List Value} {q : vw_C} (hM : ZM g y b nl rt d' mc' ms' (.ref a :: As) G P) (hg : G a = some (lb, zO ci fs)) (hc : zcl[ci]? = some q) (hdg : decode cc pc = .ok (.invokespecial idx, 3)) (p : Nat) (hp : pc + 3 = p) (hst : st = As.reverse ++ .ref a :: rest) (hn : As.length = n) (hcat : (rest.map fun v => v.category).sum ≤ 8) (hd : d' + 1 ≤ d ∧ nl ≤ 45) (hb : u + mc' ≤ mc ∧ v + ms' ≤ ms) (k : ∀ (r : Option Value) (G' : zHG), P r G' → ZW g X (u + mc') (v + ms') G' p L (r.toList ++ rest)) : ZW g X u v G pc L st := by
  subst hp
  subst hst
  intro H locs ls cs ss hR hS hu hv hL
  obtain ⟨cw1, cw2⟩ := cw
  have hcw := va_cwSU (R := xR X) (ws := ws_ y b nl rt) (rm := zroom d' mc' ms') (mc := mc') (ms := ms') n hX.hts cw1 rfl rfl rfl cw2 (by rw [hX.room]; show d' + 1 ≤ d ∧ 8 + (nl + 11) + 64 * d' ≤ 64 * d; omega)
  refine z_cont hX.st hS hu hv hL (va_runSU (hX.K.1 ci q hc).2 ⟨hX.exec, hX.code, hX.maxL, hX.ow, hX.hts⟩ hM hcw ⟨zPc_blind, z_recv hX hR hg hc, (z_preS hX hR hS).2⟩ rfl hn (by rw [← hX.maxL]; exact hL.1) rfl (lv_room hcat) hdg (by rw [hX.room]; exact ⟨Nat.le_trans (Nat.add_le_add_right hu _) hb.1, Nat.le_trans (Nat.add_le_add_right hv _) hb.2⟩)) k
/-- a field that the reference names by a subclass -/
theorem z_getfS (hX : zOk g X own cc nL ret d mc ms) {ci k a : Nat} {C ref : String} {T : u_T} {N : Nat} {lb : Nat × Nat} {fs : List Value} {x : Value} (hc : zcl[ci]? = some (C, T, N)) (hin : ∀ w ∈ u_ws C T N, w ∈ lw_all) (hk : k < N) (hlink : Jvm.Cond.fieldLink own idx ref (T k).2.1 (T k).2.2.1 ∈ lw_all) (hsame : Jvm.Cond.sameField ref (T k).1 (T k).2.1 (T k).2.2.1 ∈ lw_all) (hg : G a = some (lb, zO ci fs)) (hdg : decode cc pc = .ok (.getfield idx, 3)) (p : Nat) (hp : pc + 3 = p) (hv : fs[k]? = some x) (kk : ZW g X u v G p L (x :: st)) : ZW g X u v G pc L (.ref a :: st) := by
  subst hp
  intro H locs ls cs ss hR hS hu hv' hL
  obtain ⟨ws, h1, h2, h3⟩ := hR
  obtain ⟨q0, hq⟩ := List.getElem?_of_mem (h3 a _ hg)
  exact va_get hX.exec hX.code hX.hts hin hX.ow hX.K h1 q0 hq hc k hk (hX.hts _ hlink) (fun x h => u_same (hX.hts _ hsame) x h) hv hdg (kk H locs ls cs ss ⟨ws, h1, h2, h3⟩ hS hu hv' hL)
end ZRules
theorem met_X7_cap {g : Zg} (hG : zG g) {G : zHG} (a : Nat) : ZM g yX7_cap cX7_cap 1 (some .int) 0 0 0 [.ref a] G (zRet (some (.int 360)) G) := by
  refine ZM_mk hG (by decide) (Nat.le_of_ble_eq_true rfl) ?_
  intro X hX hname hQ
  show ZW g X 0 0 G 0 [(0, .ref a)] []
  refine z_sipush hX dX7_cap_0 3 rfl zks_360 ?_
  exact z_iret hX hQ (Nat.zero_le _) (Nat.zero_le _) rfl dX7_cap_3 ⟨rfl, rfl⟩
theorem met_X7_shock {g : Zg} (hG : zG g) {G : zHG} (a : Nat) : ZM g yX7_shock cX7_shock 1 (some .int) 0 0 0 [.ref a] G (zRet (some (.int 0)) G) := by
  refine ZM_mk hG (by decide) (Nat.le_of_ble_eq_true rfl) ?_
  intro X hX hname hQ
  show ZW g X 0 0 G 0 [(0, .ref a)] []
  refine z_iconst hX dX7_shock_0 1 rfl zki_0 ?_
  exact z_iret hX hQ (Nat.zero_le _) (Nat.zero_le _) rfl dX7_shock_1 ⟨rfl, rfl⟩
theorem met_X8_kind {g : Zg} (hG : zG g) {G : zHG} (a : Nat) : ZM g yX8_kind cX8_kind 1 (some .int) 0 0 0 [.ref a] G (zRet (some (.int 0)) G) := by
  refine ZM_mk hG (by decide) (Nat.le_of_ble_eq_true rfl) ?_
  intro X hX hname hQ
  show ZW g X 0 0 G 0 [(0, .ref a)] []
  refine z_iconst hX dX8_kind_0 1 rfl zki_0 ?_
  exact z_iret hX hQ (Nat.zero_le _) (Nat.zero_le _) rfl dX8_kind_1 ⟨rfl, rfl⟩
theorem met_X9_kind {g : Zg} (hG : zG g) {G : zHG} (a : Nat) : ZM g yX9_kind cX9_kind 1 (some .int) 0 0 0 [.ref a] G (zRet (some (.int 1)) G) := by
  refine ZM_mk hG (by decide) (Nat.le_of_ble_eq_true rfl) ?_
  intro X hX hname hQ
  show ZW g X 0 0 G 0 [(0, .ref a)] []
  refine z_iconst hX dX9_kind_0 1 rfl zki_1 ?_
  exact z_iret hX hQ (Nat.zero_le _) (Nat.zero_le _) rfl dX9_kind_1 ⟨rfl, rfl⟩
theorem cwX8_sup : GoodIn lw_all (va_wsSU RX8 7 yX7_cap (ws_ yX7_cap cX7_cap 1 (some .int))) ∧ (yX7_cap.name ≠ "<init>" ∧ (parseMethodDescriptor yX7_cap.desc).map (fun d => d.parameters.length) = some 0) := ⟨lw_SU q681 q677 q480 q676 q114 q682, by decide +kernel⟩
theorem met_X8_cap {g : Zg} (hG : zG g) {G : zHG} {a : Nat} {lb : Nat × Nat} {as mu : Int32} (ha : G a = some (lb, zO 7 [.int as, .int mu])) : ZM g yX8_cap cX8_cap 1 (some .int) 1 0 0 [.ref a] G (zRet (some (.int (if mu < 360 then mu else 360 : Int32))) G) := by
  refine ZM_mk hG (by decide) (Nat.le_of_ble_eq_true rfl) ?_
  intro X hX hname hQ
  show ZW g X 0 0 G 0 [(0, .ref a)] []
  refine z_aload_n hX dX8_cap_0 1 rfl (i := 0) rfl 0 rfl ?_
  refine z_callSU hX cwX8_sup (met_X7_cap hG a) ha rfl dX8_cap_1 4 rfl rfl rfl (Nat.le_of_ble_eq_true rfl) (by decide) ⟨Nat.zero_le _, Nat.zero_le _⟩ (fun r G' hP => ?_)
  obtain ⟨rfl, rfl⟩ := hP
  show ZW g X 0 0 G' 4 [(0, .ref a)] [.int 360]
  refine z_aload_n hX dX8_cap_4 5 rfl (i := 0) rfl 0 rfl ?_
  refine z_getfS hX (ci := 7) (k := 1) rfl in_X8 (by decide) q472 q473 ha dX8_cap_5 8 rfl rfl ?_
  refine z_mmin hX q683 q408 q113 q409 dX8_cap_8 11 rfl (by decide) (Nat.le_of_ble_eq_true rfl) (Nat.zero_le _) (Nat.zero_le _) rfl ?_
  exact z_iret hX hQ (Nat.zero_le _) (Nat.zero_le _) rfl dX8_cap_11 ⟨rfl, rfl⟩
theorem cwX9_sup : GoodIn lw_all (va_wsSU RX9 7 yX7_shock (ws_ yX7_shock cX7_shock 1 (some .int))) ∧ (yX7_shock.name ≠ "<init>" ∧ (parseMethodDescriptor yX7_shock.desc).map (fun d => d.parameters.length) = some 0) := ⟨lw_SU q650 q645 q489 q644 q114 q651, by decide +kernel⟩
theorem met_X9_shock {g : Zg} (hG : zG g) {G : zHG} {a : Nat} {lb : Nat × Nat} {as mu : Int32} (ha : G a = some (lb, zO 8 [.int as, .int mu])) : ZM g yX9_shock cX9_shock 1 (some .int) 1 0 0 [.ref a] G (zRet (some (.int (0 + mu))) G) := by
  refine ZM_mk hG (by decide) (Nat.le_of_ble_eq_true rfl) ?_
  intro X hX hname hQ
  show ZW g X 0 0 G 0 [(0, .ref a)] []
  refine z_aload_n hX dX9_shock_0 1 rfl (i := 0) rfl 0 rfl ?_
  refine z_callSU hX cwX9_sup (met_X7_shock hG a) ha rfl dX9_shock_1 4 rfl rfl rfl (Nat.le_of_ble_eq_true rfl) (by decide) ⟨Nat.zero_le _, Nat.zero_le _⟩ (fun r G' hP => ?_)
  obtain ⟨rfl, rfl⟩ := hP
  show ZW g X 0 0 G' 4 [(0, .ref a)] [.int 0]
  refine z_aload_n hX dX9_shock_4 5 rfl (i := 0) rfl 0 rfl ?_
  refine z_getfS hX (ci := 8) (k := 1) rfl in_X9 (by decide) q470 q471 ha dX9_shock_5 8 rfl rfl ?_
  refine z_iadd hX dX9_shock_8 9 rfl rfl ?_
  exact z_iret hX hQ (Nat.zero_le _) (Nat.zero_le _) rfl dX9_shock_9 ⟨rfl, rfl⟩
theorem cuX1_105_7 : zCU RX1 105 RX8 RX7 ⟨RX7, "cap", "()I"⟩ yX8_cap cX8_cap 1 (some .int) 0 := ⟨lw_U q675 q677 q678 q679 q115 q680, Or.inl ⟨q676, _, _, _, q682⟩, by decide +kernel⟩
theorem cuX1_105_8 : zCU RX1 105 RX9 RX7 ⟨RX7, "cap", "()I"⟩ yX7_cap cX7_cap 1 (some .int) 0 := ⟨lw_U q675 q677 q684 q676 q114 q682, Or.inl ⟨q676, _, _, _, q682⟩, by decide +kernel⟩
theorem r_cap_X1 {g : Zg} {X : Zx} {cc : ByteArray} {nL : Nat} {ret : Option FieldType} {d mc ms : Nat} {u v pc : Nat} {G : zHG} {L : List (Nat × Value)} {st : List Value} (hX : zOk g X RX1 cc nL ret d mc ms) {r : Nat} {kd as mu : Int32} (hR : zRu G r kd as mu) (hdg : decode cc pc = .ok (.invokevirtual 105, 3)) (p : Nat) (hp : pc + 3 = p) (hcat : (st.map fun v => v.category).sum ≤ 8) (hd : 2 ≤ d) (hb : u ≤ mc ∧ v ≤ ms) (kk : ZW g X u v G p L (.int (if kd = 0 then (if mu < 360 then mu else 360) else 360 : Int32) :: st)) : ZW g X u v G pc L (.ref r :: st) := by
  rcases hR with ⟨rfl, h⟩ | ⟨rfl, h⟩
  · refine z_callU hX cuX1_105_7 (met_X8_cap hX.G h) h rfl rfl hdg p hp rfl rfl hcat ⟨by omega, by decide⟩ hb (fun r G' hP => ?_)
    obtain ⟨rfl, rfl⟩ := hP
    exact kk
  · refine z_callU hX cuX1_105_8 (met_X7_cap hX.G r) h rfl rfl hdg p hp rfl rfl hcat ⟨by omega, by decide⟩ hb (fun r G' hP => ?_)
    obtain ⟨rfl, rfl⟩ := hP
    exact kk
theorem cuX1_115_7 : zCU RX1 115 RX8 RX7 ⟨RX7, "shock", "()I"⟩ yX7_shock cX7_shock 1 (some .int) 0 := ⟨lw_U q643 q645 q646 q644 q114 q651, Or.inl ⟨q644, _, _, _, q651⟩, by decide +kernel⟩
theorem cuX1_115_8 : zCU RX1 115 RX9 RX7 ⟨RX7, "shock", "()I"⟩ yX9_shock cX9_shock 1 (some .int) 0 := ⟨lw_U q643 q645 q647 q648 q116 q649, Or.inl ⟨q644, _, _, _, q651⟩, by decide +kernel⟩
theorem r_shock_X1 {g : Zg} {X : Zx} {cc : ByteArray} {nL : Nat} {ret : Option FieldType} {d mc ms : Nat} {u v pc : Nat} {G : zHG} {L : List (Nat × Value)} {st : List Value} (hX : zOk g X RX1 cc nL ret d mc ms) {r : Nat} {kd as mu : Int32} (hR : zRu G r kd as mu) (hdg : decode cc pc = .ok (.invokevirtual 115, 3)) (p : Nat) (hp : pc + 3 = p) (hcat : (st.map fun v => v.category).sum ≤ 8) (hd : 2 ≤ d) (hb : u ≤ mc ∧ v ≤ ms) (kk : ZW g X u v G p L (.int (if kd = 0 then 0 else 0 + mu : Int32) :: st)) : ZW g X u v G pc L (.ref r :: st) := by
  rcases hR with ⟨rfl, h⟩ | ⟨rfl, h⟩
  · refine z_callU hX cuX1_115_7 (met_X7_shock hX.G r) h rfl rfl hdg p hp rfl rfl hcat ⟨by omega, by decide⟩ hb (fun r G' hP => ?_)
    obtain ⟨rfl, rfl⟩ := hP
    exact kk
  · refine z_callU hX cuX1_115_8 (met_X9_shock hX.G h) h rfl rfl hdg p hp rfl rfl hcat ⟨by omega, by decide⟩ hb (fun r G' hP => ?_)
    obtain ⟨rfl, rfl⟩ := hP
    exact kk
theorem cuX1_283_7 : zCU RX1 283 RX8 RX7 ⟨RX7, "kind", "()I"⟩ yX8_kind cX8_kind 1 (some .int) 0 := ⟨lw_U q1371 q884 q885 q886 q115 q887, Or.inr q883, by decide +kernel⟩
theorem cuX1_283_8 : zCU RX1 283 RX9 RX7 ⟨RX7, "kind", "()I"⟩ yX9_kind cX9_kind 1 (some .int) 0 := ⟨lw_U q1371 q884 q888 q889 q116 q890, Or.inr q883, by decide +kernel⟩
theorem r_kind_X1 {g : Zg} {X : Zx} {cc : ByteArray} {nL : Nat} {ret : Option FieldType} {d mc ms : Nat} {u v pc : Nat} {G : zHG} {L : List (Nat × Value)} {st : List Value} (hX : zOk g X RX1 cc nL ret d mc ms) {r : Nat} {kd as mu : Int32} (hR : zRu G r kd as mu) (hdg : decode cc pc = .ok (.invokevirtual 283, 3)) (p : Nat) (hp : pc + 3 = p) (hcat : (st.map fun v => v.category).sum ≤ 8) (hd : 2 ≤ d) (hb : u ≤ mc ∧ v ≤ ms) (kk : ZW g X u v G p L (.int kd :: st)) : ZW g X u v G pc L (.ref r :: st) := by
  rcases hR with ⟨rfl, h⟩ | ⟨rfl, h⟩
  · refine z_callU hX cuX1_283_7 (met_X8_kind hX.G r) h rfl rfl hdg p hp rfl rfl hcat ⟨by omega, by decide⟩ hb (fun r G' hP => ?_)
    obtain ⟨rfl, rfl⟩ := hP
    exact kk
  · refine z_callU hX cuX1_283_8 (met_X9_kind hX.G r) h rfl rfl hdg p hp rfl rfl hcat ⟨by omega, by decide⟩ hb (fun r G' hP => ?_)
    obtain ⟨rfl, rfl⟩ := hP
    exact kk
theorem cuX0_184_7 : zCU RX0 184 RX8 RX7 ⟨RX7, "kind", "()I"⟩ yX8_kind cX8_kind 1 (some .int) 0 := ⟨lw_U q882 q884 q885 q886 q115 q887, Or.inr q883, by decide +kernel⟩
theorem cuX0_184_8 : zCU RX0 184 RX9 RX7 ⟨RX7, "kind", "()I"⟩ yX9_kind cX9_kind 1 (some .int) 0 := ⟨lw_U q882 q884 q888 q889 q116 q890, Or.inr q883, by decide +kernel⟩
theorem r_kind_X0 {g : Zg} {X : Zx} {cc : ByteArray} {nL : Nat} {ret : Option FieldType} {d mc ms : Nat} {u v pc : Nat} {G : zHG} {L : List (Nat × Value)} {st : List Value} (hX : zOk g X RX0 cc nL ret d mc ms) {r : Nat} {kd as mu : Int32} (hR : zRu G r kd as mu) (hdg : decode cc pc = .ok (.invokevirtual 184, 3)) (p : Nat) (hp : pc + 3 = p) (hcat : (st.map fun v => v.category).sum ≤ 8) (hd : 2 ≤ d) (hb : u ≤ mc ∧ v ≤ ms) (kk : ZW g X u v G p L (.int kd :: st)) : ZW g X u v G pc L (.ref r :: st) := by
  rcases hR with ⟨rfl, h⟩ | ⟨rfl, h⟩
  · refine z_callU hX cuX0_184_7 (met_X8_kind hX.G r) h rfl rfl hdg p hp rfl rfl hcat ⟨by omega, by decide⟩ hb (fun r G' hP => ?_)
    obtain ⟨rfl, rfl⟩ := hP
    exact kk
  · refine z_callU hX cuX0_184_8 (met_X9_kind hX.G r) h rfl rfl hdg p hp rfl rfl hcat ⟨by omega, by decide⟩ hb (fun r G' hP => ?_)
    obtain ⟨rfl, rfl⟩ := hP
    exact kk
