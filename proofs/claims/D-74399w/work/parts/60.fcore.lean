set_option maxRecDepth 100000
/-! FCORE: rows for FireSale's heap: arrays of references, clones, copies, casts -/
section ZHeap2
variable {g : Zg} {X : Zx} {own : String} {cc : ByteArray} {nL : Nat} {ret : Option FieldType} {d mc ms : Nat} {u v pc : Nat} {G : zHG} {L : List (Nat × Value)} {st : List Value}
theorem z_castable {C T : String} (hX : zOk g X own cc nL ret d mc ms) (h : Jvm.Cond.castable C T ∈ lw_tbl) : va_Nw (.castable C T) (xS X) := va_Nw.warmC hX.st.1 (va_Nw.of rfl (hX.G.2.1 _ h))
theorem z_aast (hX : zOk g X own cc nL ret d mc ms) {a n w ci : Nat} {lb lb' : Nat × Nat} {c : ClassId} {f f' : Nat → Option Nat} {fs : List Value} {q : vw_C} {i : Int32} (t0 : Nat) {E : String} (ht : (ztys g)[t0]? = some (c, .object E)) (hg : G a = some (lb, zR c n f)) (hw : G w = some (lb', zO ci fs)) (hc : zcl[ci]? = some q) (hca : q.1 = E ∨ Jvm.Cond.castable q.1 E ∈ lw_tbl) (hdg : decode cc pc = .ok (.aastore, 1)) (p : Nat) (hp : pc + 1 = p) (hin : vp_in i n) (hf : va_up f i.toNatClampNeg (some w) = f') (kk : ZW g X u v (zup G a (lb, zR c n f')) p L st) : ZW g X u v G pc L (.ref w :: .int i :: .ref a :: st) := by
  subst hp; subst hf
  intro H locs ls cs ss hR hS hu hv' hL
  obtain ⟨ws, h1, h2, h3⟩ := hR
  obtain ⟨q0, hq⟩ := List.getElem?_of_mem (h3 a _ hg)
  obtain ⟨qk, hqk⟩ := List.getElem?_of_mem (h3 w _ hw)
  rcases hca with e | e
  · exact va_astq hX.exec hX.code hX.K h1 h2 hS q0 t0 qk ci hq (by rw [e]; exact ht) hqk hc hin hdg (fun H1 locs1 hP1 hD1 hS1 => kk H1 locs1 ls cs ss (zRel_set h2 h3 hq hP1 hD1) hS1 hu hv' hL)
  · exact va_astqO hX.exec hX.code hX.K h1 h2 hS q0 t0 qk ci hq ht (z_castable hX e) hqk hc hin hdg (fun H1 locs1 hP1 hD1 hS1 => kk H1 locs1 ls cs ss (zRel_set h2 h3 hq hP1 hD1) hS1 hu hv' hL)
theorem z_aastN (hX : zOk g X own cc nL ret d mc ms) {a n : Nat} {lb : Nat × Nat} {c : ClassId} {f f' : Nat → Option Nat} {i : Int32} (t0 : Nat) {E : String} (ht : (ztys g)[t0]? = some (c, .object E)) (hg : G a = some (lb, zR c n f)) (hdg : decode cc pc = .ok (.aastore, 1)) (p : Nat) (hp : pc + 1 = p) (hin : vp_in i n) (hf : va_up f i.toNatClampNeg none = f') (kk : ZW g X u v (zup G a (lb, zR c n f')) p L st) : ZW g X u v G pc L (.null :: .int i :: .ref a :: st) := by
  subst hp; subst hf
  intro H locs ls cs ss hR hS hu hv' hL
  obtain ⟨ws, h1, h2, h3⟩ := hR
  obtain ⟨q0, hq⟩ := List.getElem?_of_mem (h3 a _ hg)
  exact va_astqN hX.exec hX.code hX.K h1 h2 hS q0 t0 hq ht hin hdg (fun H1 locs1 hP1 hD1 hS1 => kk H1 locs1 ls cs ss (zRel_set h2 h3 hq hP1 hD1) hS1 hu hv' hL)
theorem z_AOm {t : FieldType} {a b : Array Value} {w U : State} (hvm : w.vm.Alike U.vm) (h : (Cond.arrayOver (.array t)).before a w = true) : (Cond.arrayOver (.array t)).before b U = true := by
  obtain ⟨comp, c, k, h1, h2, h3, h4, h5⟩ := arrayOverA_spec h
  obtain ⟨k', hk', he⟩ := hvm.2.2 _ _ h3
  have hi : (U.vm.classes.findIdx? fun (x : Class) => match x.kind with | .array component _ => component == comp | _ => false) = some c := by
    rw [hvm.findIdx?_eq _ (fun _ => rfl)]; exact h2
  have hkind : k'.kind = .array comp (.array t) := by rw [he]; exact h4
  have f1 : U.vm.findClass (FieldType.array t).toString = some comp := by rw [hvm.findClass]; exact h1
  have f2 : U.vm.findClass ("[" ++ (FieldType.array t).toString) = some c := by rw [hvm.findClass]; exact h5
  unfold Cond.before Cond.holds
  simp only [Cond.value]
  rw [f1, Option.bind_some]
  refine (congrArg (fun o : Option Nat => (o.bind (fun c => (U.vm.classes[c]?).map fun (k : Class) => match k.kind with | .array _ ty => decide (ty = FieldType.array t) && decide (U.vm.findClass ("[" ++ (FieldType.array t).toString) = some c) | _ => false) == some true)) hi).trans ?_
  simp [hk', hkind, f2]
theorem z_AOA {t : FieldType} {U : State} (h : (Cond.arrayOver (.array t)).before #[] U = true) : ∃ comp c k, U.vm.findClass (FieldType.array t).toString = some comp ∧ U.vm.classes[c]? = some k ∧ k.kind = .array comp (.array t) ∧ U.vm.findClass ("[" ++ (FieldType.array t).toString) = some c := by
  obtain ⟨comp, c, k, h1, _, h2, h3, h4⟩ := arrayOverA_spec h
  exact ⟨comp, c, k, h1, h2, h3, h4⟩
/-- an array of ints is laid into an array of such rows -/
theorem z_aastA (hX : zOk g X own cc nL ret d mc ms) {a n w : Nat} {lb lb' : Nat × Nat} {f f' : Nat → Option Nat} {x : vp_A} {i : Int32} (hao : (Jvm.Cond.arrayOver (.array .int)) ∈ lw_tbl) (hg : G a = some (lb, zR (zca g 2) n f)) (hw : G w = some (lb', .inl (zca g 0, x))) (hdg : decode cc pc = .ok (.aastore, 1)) (p : Nat) (hp : pc + 1 = p) (hin : vp_in i n) (hf : va_up f i.toNatClampNeg (some w) = f') (kk : ZW g X u v (zup G a (lb, zR (zca g 2) n f')) p L st) : ZW g X u v G pc L (.ref w :: .int i :: .ref a :: st) := by
  subst hp; subst hf
  intro H locs ls cs ss hR hS hu hv' hL
  obtain ⟨ws, h1, h2, h3⟩ := hR
  obtain ⟨q0, hq⟩ := List.getElem?_of_mem (h3 a _ hg)
  obtain ⟨qk, hqk⟩ := List.getElem?_of_mem (h3 w _ hw)
  have hlt : i.toNatClampNeg < n := Nat.not_le.mp fun q => hin (Or.inr q)
  have h0 : ¬ i < 0 := fun q => hin (Or.inl q)
  obtain ⟨comp, c, k, k1, k2, k3, k4⟩ := z_AOA (hX.G.2.1 _ hao)
  have hal := hX.st.1.alike
  have e2 : c = zca g 2 := Option.some.inj (k4.symm.trans (hX.G.1.2 2 _ rfl).2)
  have e0 : comp = zca g 0 := Option.some.inj (k1.symm.trans (hX.G.1.2 0 _ rfl).2)
  subst e2
  subst e0
  obtain ⟨k', hk', he⟩ := hal.2.2 _ _ k2
  obtain ⟨-, kI, hkI, -⟩ := (hX.K.2 0 _ rfl).1 0 (fun _ => .null)
  have hvm0 : (vp_cell (zca g 0) x).vm = .none := by
    obtain ⟨n, f | f | f | f | f⟩ := x <;> rfl
  have hcl0 : (vp_cell (zca g 0) x).cls = zca g 0 := by
    obtain ⟨n, f | f | f | f | f⟩ := x <;> rfl
  refine W.aast hX.exec hX.code (h1 q0 _ hq) (fun q h => by cases h) (fun h => by cases h) hk' (by rw [he]; exact k3) rfl hkI ⟨h0, by show _ < (arrV _ _ _).slots.size; rw [arrV_size]; exact hlt⟩ (h1 qk _ hqk) (fun q h => by rw [hvm0] at h; cases h) (by rw [hcl0]; exact hkI) (by rw [hcl0]; exact va_asg _ _) rfl rfl hdg fun H1 e z oq => ?_
  have hset : H1[a]? = some (vp_cell (zca g 2) (n, .inr (.inr (.inr (.inr (va_up f i.toNatClampNeg (some w))))))) := by
    rw [e]
    rw [vp_cell_q, vp_cell_q, arrV_store]
    congr 2
    funext q
    by_cases hq : q = i.toNatClampNeg
    · subst hq
      simp [updV, va_up, va_rf]
    · simp [updV, va_up, hq]
  exact kk H1 _ ls cs ss (zRel_set h2 h3 hq (h1.set h2 hq hset oq) (h2.set hq)) (hS.put z oq (h2.2 q0 _ hq)) hu hv' hL
theorem z_tysEq (hX : zOk g X own cc nL ret d mc ms) {c cA : ClassId} {ty : FieldType} (t0 : Nat) (ht : (ztys g)[t0]? = some (c, ty)) (h : va_RA (xS X) cA ty) : cA = c := by
  have e2 := (hX.K.2 t0 _ ht).2
  cases ty with
  | object C =>
    obtain ⟨_, _, _, _, _, f1⟩ := h
    obtain ⟨_, _, _, _, _, f2⟩ := e2
    exact Option.some.inj (f1.symm.trans f2)
  | _ => exact Option.some.inj (h.symm.trans e2)
theorem z_newq (hX : zOk g X own cc nL ret d mc ms) (lb : Nat → Nat × Nat) {idx : Nat} {C : String} {c : ClassId} (t0 : Nat) (ht : (ztys g)[t0]? = some (c, .object C)) (hq1 : Jvm.Cond.classLink own idx C ∈ lw_all) (hq2 : Jvm.Cond.arrayOver (.object C) ∈ lw_tbl) {n : Int32} {N : Nat} (hdg : decode cc pc = .ok (.anewarray idx, 3)) (p : Nat) (hp : pc + 3 = p) (hn : ¬ n < 0) (hN : n.toNatClampNeg = N) (hb : N * 4 ≤ 536870912) (hu1 : u + 1 ≤ mc) (hv1 : v + N ≤ ms) (kk : ∀ a : Nat, G a = none → zA g a → ZW g X (u + 1) (v + N) (zup G a (lb a, zR c N (fun _ => none))) p L (.ref a :: st)) : ZW g X u v G pc L (.int n :: st) := by
  subst hp
  intro H locs ls cs ss hR hS hu hv' hL
  obtain ⟨ws, q1, q2, q3⟩ := hR
  exact va_newq hX.exec hX.code hX.ow (hX.hts _ hq1) (va_AO.moved hX.st.1.alike (va_AO.of (hX.G.2.1 _ hq2))) hX.K q1 q2 hS (zA_new hX.st) hn hN hb (by rw [hX.room]; exact Nat.le_trans (Nat.add_le_add_right hu 1) hu1) (by rw [hX.room]; exact Nat.le_trans (Nat.add_le_add_right hv' N) hv1) hdg
    (fun q cA H1 hK1 hP1 hD1 hS1 => by
      have hcA : cA = c := z_tysEq hX t0 ht (hK1.2 (ztys g).length (cA, .object C) (by simp)).2
      subst hcA
      obtain ⟨r1, r2, r3⟩ := zRel_push (lb := lb q) q3 hP1 hD1
      exact kk q r2 r3 H1 locs ls (cs + 1) (ss + N) r1 hS1 (Nat.add_le_add_right hu 1) (Nat.add_le_add_right hv' N) hL)
/-- new rows without their places: an array of arrays of ints -/
theorem z_newqA (hX : zOk g X own cc nL ret d mc ms) (lb : Nat → Nat × Nat) {idx : Nat} (hq1 : Jvm.Cond.classLink own idx "[I" ∈ lw_all) (hq2 : Jvm.Cond.arrayOver (.array .int) ∈ lw_tbl) {n : Int32} {N : Nat} (hdg : decode cc pc = .ok (.anewarray idx, 3)) (p : Nat) (hp : pc + 3 = p) (hn : ¬ n < 0) (hN : n.toNatClampNeg = N) (hb : N * 4 ≤ 536870912) (hu1 : u + 1 ≤ mc) (hv1 : v + N ≤ ms) (kk : ∀ a : Nat, G a = none → zA g a → ZW g X (u + 1) (v + N) (zup G a (lb a, zR (zca g 2) N (fun _ => none))) p L (.ref a :: st)) : ZW g X u v G pc L (.int n :: st) := by
  subst hp; subst hN
  intro H locs ls cs ss hR hS hu hv' hL
  obtain ⟨ws, q1, q2, q3⟩ := hR
  have hover : (Cond.arrayOver (.array .int)).before (xA X) (xS X) = true := z_AOm hX.st.1.alike (hX.G.2.1 _ hq2)
  refine W.anewA (t := .int) hX.exec hX.code hX.ow (hX.hts _ hq1) hover rfl hdg rfl hn hb (by rw [hX.room]; exact Nat.le_trans (Nat.add_le_add_right hu 1) hu1) (by rw [hX.room]; exact Nat.le_trans (Nat.add_le_add_right hv' _) hv1) fun cA kA comp f1 f2 f3 f4 => ?_
  have hcA : cA = zca g 2 := z_tysEq hX 2 rfl f1
  subst hcA
  generalize hH1 : H.push ({ cls := zca g 2, slots := Array.replicate n.toNatClampNeg .null, vm := .none } : Cell) = H1
  have z1 : H1.size = H.size + 1 := by rw [← hH1, Array.size_push]
  have e1 : H1[H.size]? = some (arrV (zca g 2) n.toNatClampNeg (fun _ => .null)) := by rw [← hH1, Array.getElem?_push_size, ← arrV_new]
  have o1 : ∀ q : Nat, q < H.size → H1[q]? = H[q]? := fun q hq => by rw [← hH1, Array.getElem?_push, if_neg (Nat.ne_of_lt hq)]
  have hk : ∀ (k : Nat) (x : Nat × va_E), ws[k]? = some x → H1[x.1]? = H[x.1]? := fun k x hx => o1 x.1 ((q1 k x hx).lt)
  have hP1 : va_P (zD g) zcl (ws ++ [(H.size, zR (zca g 2) n.toNatClampNeg (fun _ => none))]) H1 := (q1.kept hk).app (fun k x hx => by
    have hz : k < 1 := (List.getElem?_eq_some_iff.mp hx).1
    rw [show k = 0 by omega] at hx
    cases hx
    show H1[H.size]? = some (vp_cell _ _)
    rw [vp_cell_q]
    exact e1)
  obtain ⟨r1, r2, r3⟩ := zRel_push (lb := lb H.size) q3 hP1 (q2.push q1 rfl (zA_new hX.st _ hS.1))
  exact kk H.size r2 r3 H1 locs ls (cs + 1) (ss + n.toNatClampNeg) r1 ⟨Nat.le_trans hS.1 (by omega), fun x h1 h2 => (o1 x (Nat.lt_of_lt_of_le h1 hS.1)).trans (hS.2.1 x h1 h2), hS.2.2⟩ (Nat.add_le_add_right hu 1) (Nat.add_le_add_right hv' _) hL
/-- a clone of an array -/
theorem z_clone (hX : zOk g X own cc nL ret d mc ms) (lb : Nat → Nat × Nat) {idx a t0 : Nat} {ad : String} {lb0 : Nat × Nat} {c : ClassId} {x : vp_A} {ty : FieldType} (hq1 : Jvm.Cond.methodLink own idx ⟨ad, "clone", "()Ljava/lang/Object;"⟩ ∈ lw_all) (hq2 : Jvm.Cond.sameMethod ad "java/lang/Object" "clone" "()Ljava/lang/Object;" ∈ lw_all) (hq3 : Jvm.Cond.native ⟨"java/lang/Object", "clone", "()Ljava/lang/Object;"⟩ ∈ lw_all) (hq4 : Jvm.Cond.instanceMethod ⟨"java/lang/Object", "clone", "()Ljava/lang/Object;"⟩ ∈ lw_all) (hq5 : Jvm.Cond.selects ad ⟨ad, "clone", "()Ljava/lang/Object;"⟩ ⟨"java/lang/Object", "clone", "()Ljava/lang/Object;"⟩ ∈ lw_all) (hq6 : Jvm.Cond.castable ad "java/lang/Cloneable" ∈ lw_tbl) (ht : (ztys g)[t0]? = some (c, ty)) (had : "[" ++ ty.toString = ad) (hg : G a = some (lb0, .inl (c, x))) (hfit : ∀ (i : Nat) (v : Value), (vp_cell c x).slots[i]? = some v → fits ty v = true) (hdg : decode cc pc = .ok (.invokevirtual idx, 3)) (p : Nat) (hp : pc + 3 = p) (hcat : (st.map fun v => v.category).sum ≤ 8) (hd : 1 ≤ d) (hu1 : u + 1 ≤ mc) (hv1 : v + x.1 ≤ ms) (kk : ∀ b : Nat, G b = none → zA g b → ZW g X (u + 1) (v + x.1) (zup G b (lb b, .inl (c, x))) p L (.ref b :: st)) : ZW g X u v G pc L (.ref a :: st) := by
  subst hp
  intro H locs ls cs ss hR hS hu hv' hL
  obtain ⟨ws, q1, q2, q3⟩ := hR
  obtain ⟨q0, hq⟩ := List.getElem?_of_mem (q3 a _ hg)
  have hnm : (xS X).vm.findClass ad = some c := by
    rw [← had]
    have e2 := (hX.K.2 t0 _ ht).2
    cases ty with
    | object C =>
      obtain ⟨_, _, _, _, _, f2⟩ := e2
      exact f2
    | _ => exact e2
  exact va_clone hX.exec hX.code (by first | exact hL.1 | exact hL.1.symm) hX.ow (hX.hts _ hq1) (hX.hts _ hq2) (hX.hts _ hq3) (hX.hts _ hq4) (hX.hts _ hq5) (z_castable hX hq6) hX.K q1 q2 hS (zA_new hX.st) q0 t0 hq ht hnm hfit (by rw [hX.room]; exact hd) (by rw [hX.room]; show _ ≤ 64 * d; omega) (by rw [hX.room]; exact Nat.le_trans (Nat.add_le_add_right hu 1) hu1) (by rw [hX.room]; exact Nat.le_trans (Nat.add_le_add_right hv' _) hv1) hdg
    (fun q H1 hK1 hP1 hD1 hS1 => by
      obtain ⟨r1, r2, r3⟩ := zRel_push (lb := lb q) q3 hP1 hD1
      exact kk q r2 r3 H1 locs ls (cs + 1) (ss + x.1) r1 hS1 (Nat.add_le_add_right hu 1) (Nat.add_le_add_right hv' _) hL)
theorem z_copyi (hX : zOk g X own cc nL ret d mc ms) {idx a0 a n0 n1 t0 : Nat} {lb0 lb1 : Nat × Nat} {c : ClassId} {ty : FieldType} {f f1 f' : Nat → Int32} (hq1 : Jvm.Cond.methodLink own idx arraycopyName ∈ lw_all) (hq2 : Jvm.Cond.native arraycopyName ∈ lw_all) (hq3 : Jvm.Cond.static arraycopyName ∈ lw_all) (hq4 : Jvm.Cond.initialized "java/lang/System" ∈ lw_all) (ht : (ztys g)[t0]? = some (c, ty)) (hpr : refKind ty = false) (hg0 : G a0 = some (lb0, zI c n0 f)) (hg1 : G a = some (lb1, zI c n1 f1)) {sp dp n : Int32} (h1 : ¬ sp < 0) (h2 : ¬ dp < 0) (h3 : ¬ n < 0) (h4 : sp.toNatClampNeg + n.toNatClampNeg ≤ n0) (h5 : dp.toNatClampNeg + n.toNatClampNeg ≤ n1) (hfit : ∀ i, i < n.toNatClampNeg → fits ty (.int (f (sp.toNatClampNeg + i))) = true) (hf : va_cpy f f1 sp.toNatClampNeg dp.toNatClampNeg n.toNatClampNeg = f') (hdg : decode cc pc = .ok (.invokestatic idx, 3)) (p : Nat) (hp : pc + 3 = p) (hcat : (st.map fun v => v.category).sum ≤ 8) (hd : 1 ≤ d) (kk : ZW g X u v (zup G a (lb1, zI c n1 f')) p L st) : ZW g X u v G pc L (.int n :: .int dp :: .ref a :: .int sp :: .ref a0 :: st) := by
  subst hp; subst hf
  intro H locs ls cs ss hR hS hu hv' hL
  obtain ⟨ws, q1, q2, q3⟩ := hR
  obtain ⟨k0, hk0⟩ := List.getElem?_of_mem (q3 a0 _ hg0)
  obtain ⟨k1, hk1⟩ := List.getElem?_of_mem (q3 a _ hg1)
  have hw : (st.map fun v => v.category).sum + (nativeFrameWords "java/lang/System" "arraycopy" 5 + 11) ≤ 64 * d := by
    have e : nativeFrameWords "java/lang/System" "arraycopy" 5 + 11 ≤ 50 := by decide
    omega
  exact va_copyi hX.exec hX.code (by first | exact hL.1 | exact hL.1.symm) hX.ow (hX.hts _ hq1) (hX.hts _ hq2) (hX.hts _ hq3) (hX.hts _ hq4) hX.K q1 q2 hS k0 k1 t0 t0 hk0 hk1 ht ht hpr h1 h2 h3 h4 h5 hfit (by rw [hX.room]; exact hd) (by rw [hX.room]; exact hw) hdg
    (fun H1 locs1 hP1 hD1 hS1 => kk H1 locs1 ls cs ss (zRel_set q2 q3 hk1 hP1 hD1) hS1 hu hv' hL)
theorem z_castA (hX : zOk g X own cc nL ret d mc ms) {idx a t0 : Nat} {nm : String} {lb : Nat × Nat} {c : ClassId} {x : vp_A} {ty : FieldType} (hq1 : Jvm.Cond.classLink own idx nm ∈ lw_all) (ht : (ztys g)[t0]? = some (c, ty)) (had : "[" ++ ty.toString = nm) (hg : G a = some (lb, .inl (c, x))) (hdg : decode cc pc = .ok (.checkcast idx, 3)) (p : Nat) (hp : pc + 3 = p) (kk : ZW g X u v G p L (.ref a :: st)) : ZW g X u v G pc L (.ref a :: st) := by
  subst hp
  intro H locs ls cs ss hR hS hu hv' hL
  obtain ⟨ws, q1, q2, q3⟩ := hR
  obtain ⟨q0, hq⟩ := List.getElem?_of_mem (q3 a _ hg)
  have hnm : (xS X).vm.findClass nm = some c := by
    rw [← had]
    have e2 := (hX.K.2 t0 _ ht).2
    cases ty with
    | object C =>
      obtain ⟨_, _, _, _, _, f2⟩ := e2
      exact f2
    | _ => exact e2
  exact va_castA hX.exec hX.code hX.ow (hX.hts _ hq1) q1 q0 hq hnm hdg (kk H locs ls cs ss ⟨ws, q1, q2, q3⟩ hS hu hv' hL)
theorem z_castS (hX : zOk g X own cc nL ret d mc ms) {idx a ci : Nat} {nm : String} {lb : Nat × Nat} {fs : List Value} {q : vw_C} (hq1 : Jvm.Cond.classLink own idx nm ∈ lw_all) (hg : G a = some (lb, zO ci fs)) (hc : zcl[ci]? = some q) (hqn : q.1 = nm) (hdg : decode cc pc = .ok (.checkcast idx, 3)) (p : Nat) (hp : pc + 3 = p) (kk : ZW g X u v G p L (.ref a :: st)) : ZW g X u v G pc L (.ref a :: st) := by
  subst hp; subst hqn
  intro H locs ls cs ss hR hS hu hv' hL
  exact va_castS hX.exec hX.code hX.ow (hX.hts _ hq1) (hX.K.1 ci q hc).2 (z_recv hX hR hg hc) hdg (kk H locs ls cs ss hR hS hu hv' hL)
end ZHeap2
