set_option maxRecDepth 100000
/-! a row of rows of ints, made at one blow -/
def zRelB (g : Zg) (G : zHG) (H : Heap) (b : Nat) : Prop := ∃ ws : va_W, va_P (zD g) zcl ws H ∧ va_D (zA g) ws ∧ (∀ (k : Nat) (p : Nat × va_E), ws[k]? = some p → p.1 < b) ∧ ∀ (a : Nat) (w : (Nat × Nat) × va_E), G a = some w → (a, w.2) ∈ ws
theorem zRelB.rel {g : Zg} {G : zHG} {H : Heap} {b : Nat} (h : zRelB g G H b) : zRel g G H := by
  obtain ⟨ws, h1, h2, h3, h4⟩ := h
  exact ⟨ws, h1, h2, h4⟩
theorem zRelB.no {g : Zg} {G : zHG} {H : Heap} {b a : Nat} (h : zRelB g G H b) (ha : b ≤ a) : G a = none := by
  obtain ⟨ws, h1, h2, h3, h4⟩ := h
  cases hw : G a with
  | none => rfl
  | some w =>
    obtain ⟨i, hi⟩ := List.getElem?_of_mem (h4 a w hw)
    have := h3 i _ hi
    have : a < b := this
    omega
theorem zRelB.add {g : Zg} {G : zHG} {H : Heap} {b : Nat} {e : va_E} (lb : Nat × Nat) (h : zRelB g G H b) (hA : zA g b) (he : va_at (zD g) zcl (b, e) H) : zRelB g (zup G b (lb, e)) H (b + 1) := by
  obtain ⟨ws, h1, h2, h3, h4⟩ := h
  have hk : ∀ (k : Nat) (p : Nat × va_E), (ws ++ [(b, e)])[k]? = some p → (k < ws.length ∧ ws[k]? = some p) ∨ (k = ws.length ∧ p = (b, e)) := by
    intro k p hp
    by_cases hl : k < ws.length
    · rw [List.getElem?_append_left hl] at hp
      exact Or.inl ⟨hl, hp⟩
    · rw [List.getElem?_append_right (by omega)] at hp
      have hz : k - ws.length < 1 := (List.getElem?_eq_some_iff.mp hp).1
      rw [show k - ws.length = 0 by omega] at hp
      cases hp
      exact Or.inr ⟨by omega, rfl⟩
  refine ⟨ws ++ [(b, e)], fun k p hp => ?_, ⟨fun i j p q hp hq hpq => ?_, fun k p hp => ?_⟩, fun k p hp => ?_, fun a w hw => ?_⟩
  · rcases hk k p hp with ⟨_, z⟩ | ⟨_, rfl⟩
    · exact h1 k p z
    · exact he
  · rcases hk i p hp with ⟨a1, z1⟩ | ⟨a1, rfl⟩ <;> rcases hk j q hq with ⟨a2, z2⟩ | ⟨a2, rfl⟩
    · exact h2.1 i j p q z1 z2 hpq
    · have := h3 i p z1
      have hpq : p.1 = b := hpq
      omega
    · have := h3 j q z2
      have hpq : b = q.1 := hpq
      omega
    · omega
  · rcases hk k p hp with ⟨_, z⟩ | ⟨_, rfl⟩
    · exact h2.2 k p z
    · exact hA
  · rcases hk k p hp with ⟨_, z⟩ | ⟨_, rfl⟩
    · have := h3 k p z; omega
    · exact Nat.lt_succ_self b
  · by_cases hb : a = b
    · subst hb
      rw [zup_self] at hw
      cases hw
      simp
    · rw [zup_ne _ _ hb] at hw
      exact List.mem_append_left _ (h4 a w hw)
def zmulE (g : Zg) (a n k j : Nat) : va_E := if j = 0 then zR (zca g 2) n (fun i => some (a + 1 + i)) else zI (zca g 0) k (fun _ => 0)
def zmul (g : Zg) (G : zHG) (a : Nat) (lb : Nat → Nat × Nat) (n k : Nat) : Nat → zHG
  | 0 => G
  | i + 1 => zup (zmul g G a lb n k i) (a + i) (lb i, zmulE g a n k i)
theorem zmul_at (g : Zg) (G : zHG) (a : Nat) (lb : Nat → Nat × Nat) (n k : Nat) : ∀ i j, j < i → zmul g G a lb n k i (a + j) = some (lb j, zmulE g a n k j)
  | 0, _, h => absurd h (Nat.not_lt_zero _)
  | i + 1, j, h => by
    show zup (zmul g G a lb n k i) (a + i) _ (a + j) = _
    by_cases e : j = i
    · subst e; exact zup_self _ _ _
    · rw [zup_ne _ _ (by omega)]
      exact zmul_at g G a lb n k i j (by omega)
theorem zmul_fr (g : Zg) (G : zHG) (a : Nat) (lb : Nat → Nat × Nat) (n k : Nat) (hno : ∀ j, G (a + j) = none) (ks : List (Nat × Nat)) : ∀ i, zFrK ks G (zmul g G a lb n k i)
  | 0 => zFrK.rf
  | i + 1 => by
    intro b l e h1 h2
    show zup (zmul g G a lb n k i) (a + i) _ b = _
    have hne : b ≠ a + i := fun z => by rw [z, hno i] at h1; cases h1
    rw [zup_ne _ _ hne]
    exact zmul_fr g G a lb n k hno ks i b l e h1 h2
theorem outer_arrV (c : ClassId) (N h0 : Nat) : ∀ i, Jvm.Free.Multi.outerC c N h0 i = arrV c N (fun j => if j < i then .ref (h0 + 1 + j) else .null)
  | 0 => by
    show ({ cls := c, slots := Array.replicate N .null, vm := .none } : Cell) = _
    rw [arrV_new]
    congr 1
  | i + 1 => by
    show (Jvm.Free.Multi.outerC c N h0 i).setSlot i (.ref (h0 + 1 + i)) = _
    rw [outer_arrV c N h0 i, arrV_store]
    congr 1
    funext j
    unfold updV
    by_cases e : j = i
    · subst e; simp
    · by_cases h : j < i
      · simp [e, h, Nat.lt_succ_of_lt h]
      · have : ¬ j < i + 1 := by omega
        simp [e, h, this]
theorem arrV_congr {c : ClassId} {N : Nat} {f f' : Nat → Value} (h : ∀ j, j < N → f j = f' j) : arrV c N f = arrV c N f' := by
  unfold arrV
  have e : (Array.ofFn (n := N) fun j => f j.val) = Array.ofFn (n := N) fun j => f' j.val := by
    congr 1
    funext j
    exact h j.val j.isLt
  rw [e]
theorem z_multi {g : Zg} {X : Zx} {own : String} {cc : ByteArray} {nL : Nat} {ret : Option FieldType} {d mc ms : Nat} {u v pc : Nat} {G : zHG} {L : List (Nat × Value)} {st : List Value} (hX : zOk g X own cc nL ret d mc ms) (lb : Nat → Nat × Nat) {idx : Nat} (hq1 : Jvm.Cond.classLink own idx "[[I" ∈ lw_all) (hq2 : Jvm.Cond.arrayOver (.array .int) ∈ lw_tbl) (hq3 : Jvm.Cond.arrayClass .int ∈ lw_all) (n k : Nat) (hn : n < 1000) (hk : k < 1000) (hdg : decode cc pc = .ok (.multianewarray idx 2, 4)) (p : Nat) (hp : pc + 4 = p) (hu1 : u + (1 + n) ≤ mc) (hv1 : v + (n + n * k) ≤ ms) (kk : ∀ a : Nat, (∀ j, G (a + j) = none) → ZW g X (u + (1 + n)) (v + (n + n * k)) (zmul g G a lb n k (n + 1)) p L (.ref a :: st)) : ZW g X u v G pc L (.int (nI k) :: .int (nI n) :: st) := by
  subst hp
  intro H locs ls cs ss hR hS hu hv hL T hT Xs
  obtain ⟨ws, q1, q2, q3⟩ := hR
  have hnc : (nI n).toNatClampNeg = n := nI_clamp (by omega)
  have hkc : (nI k).toNatClampNeg = k := nI_clamp (by omega)
  have neg : ∀ m, m < 1000 → ¬ nI m < 0 := fun m hm h => by
    have h0 := Int32.lt_iff_toInt_lt.mp h
    rw [nI_toInt (by omega)] at h0
    have : (0 : Int32).toInt = 0 := by decide
    omega
  obtain ⟨vm₁, cA, comp, hW, hfA, hfC, hO, hI, X1, step⟩ := Xs.multianewarray2F hX.exec (own := own) (index := idx) (ty := .int) hX.ow (hX.hts _ hq1) (z_AOm hX.st.1.alike (hX.G.2.1 _ hq2)) (hX.hts _ hq3)
    (g := F0 (xM X) pc ls (.int (nI k) :: .int (nI n) :: st)) rfl (by rw [hX.code]; exact hdg) (n := nI n) (k := nI k) (rest := st) rfl (neg n hn) (neg k hk)
    (by rw [hnc]; omega) (by rw [hkc]; show k * 4 ≤ _; omega) (by rw [hkc]; omega) rfl rfl (by rw [hnc, hX.room]; exact Nat.le_trans (Nat.add_le_add_right hu _) hu1) (by rw [hnc, hkc, hX.room]; exact Nat.le_trans (Nat.add_le_add_right hv _) hv1)
  have ecA : cA = zca g 2 := z_tysEq hX 2 rfl hfA
  have ecC : comp = zca g 0 := z_tysEq hX 0 rfl hfC
  subst ecA
  subst ecC
  rw [hnc, hkc] at X1 step
  generalize hF : Jvm.Free.Multi.fill (T.setVm vm₁) (zca g 2) (zca g 0) n k (defaultValue .int) n = F at X1 step
  have hh0 : (T.setVm vm₁).heap = H := hT
  obtain ⟨f1, f2, f3, f4⟩ := Jvm.Free.Multi.fill_facts (T.setVm vm₁) (zca g 2) (zca g 0) n k (defaultValue .int) n
  have fo := fun (q : Nat) (hq : q < H.size) => Jvm.Free.Multi.fill_old (T.setVm vm₁) (zca g 2) (zca g 0) n k (defaultValue .int) (a := q) (by rw [hh0]; exact hq) n
  have fi := fun (j : Nat) (hj : j < n) => Jvm.Free.Multi.fill_inner (T.setVm vm₁) (zca g 2) (zca g 0) n k (defaultValue .int) n j hj
  rw [hF, hh0] at f1 f2
  simp only [hF, hh0] at fo fi
  have hsz : H.size ≤ F.heap.size := by omega
  have hB0 : zRelB g G F.heap H.size := ⟨ws, fun i x hx => (q1 i x hx).kept (fo x.1 (q1 i x hx).lt), q2, fun i x hx => (q1 i x hx).lt, q3⟩
  have hno : ∀ j, G (H.size + j) = none := fun j => hB0.no (by omega)
  have hB : ∀ i, i ≤ n + 1 → zRelB g (zmul g G H.size lb n k i) F.heap (H.size + i) := by
    intro i
    induction i with
    | zero => intro _; exact hB0
    | succ i ih =>
      intro hi
      refine (ih (by omega)).add (lb i) (zA_new hX.st _ (Nat.le_trans hS.1 (by omega))) ?_
      unfold zmulE
      split
      · rename_i e
        subst e
        show F.heap[H.size + 0]? = some (vp_cell _ _)
        rw [Nat.add_zero, f2, outer_arrV, vp_cell_q]
        exact congrArg some (arrV_congr (fun j hj => by rw [if_pos hj]; rfl))
      · show F.heap[H.size + i]? = some (vp_cell _ _)
        have h := fi (i - 1) (by omega)
        rw [show H.size + 1 + (i - 1) = H.size + i from by omega] at h
        rw [h]
        exact congrArg some (arrV_new (zca g 0) k (.int 0))
  obtain ⟨t, a1, b1⟩ := kk H.size hno F.heap locs ls (cs + (1 + n)) (ss + (n + n * k)) (hB (n + 1) (Nat.le_refl _)).rel
    ⟨Nat.le_trans hS.1 hsz, fun q h1 h2 => (fo q (Nat.lt_of_lt_of_le h1 hS.1)).trans (hS.2.1 q h1 h2), hS.2.2⟩ (Nat.add_le_add_right hu _) (Nat.add_le_add_right hv _) hL F rfl (by
      have e1 : cs + 1 + n = cs + (1 + n) := by omega
      have e2 : ss + n + n * k = ss + (n + n * k) := by omega
      rw [e1, e2] at X1
      exact X1)
  rw [show T.heap.size = H.size from by rw [hT]] at step
  exact ⟨t, step t a1, b1⟩
