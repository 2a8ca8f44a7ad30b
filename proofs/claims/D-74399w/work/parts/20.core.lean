set_option maxRecDepth 100000
/-! CORE: the judgement ZW over an abstract heap; a contract ZM; a row an instruction -/
abbrev zHG : Type := Nat → Option ((Nat × Nat) × va_E)
abbrev Zg : Type := Launch × State × Nat × va_G × (Nat → ClassId) × (Nat → Nat)
abbrev zLa (g : Zg) : Launch := g.1
abbrev zS0 (g : Zg) : State := g.2.1
abbrev zB0 (g : Zg) : Nat := g.2.2.1
abbrev zD (g : Zg) : va_G := g.2.2.2.1
abbrev zca (g : Zg) : Nat → ClassId := g.2.2.2.2.1
abbrev zad (g : Zg) : Nat → Nat := g.2.2.2.2.2
def zA (g : Zg) : Nat → Prop := fun q => (zS0 g).heap.size ≤ q
def ztys (g : Zg) : List (ClassId × FieldType) := [(zca g 0, .int), (zca g 1, .byte), (zca g 2, .array .int), (zca g 3, .object "FireSale$Shelf"), (zca g 4, .object "FireSale$Rule"), (zca g 5, .object "FireSale$Cap"), (zca g 6, .object "FireSale$Shock"), (zca g 7, .object "java/lang/Object")]
/-- what is known of the claim's start, once for all -/
def zG (g : Zg) : Prop := va_K (zD g) zcl (ztys g) (zS0 g) ∧ (∀ w ∈ lw_tbl, w.before (#[Value.ref (zB0 g)] : Array Value) (zS0 g) = true) ∧ (Jvm.Cond.and given_1 narrow_1).before (#[Value.ref (zB0 g)] : Array Value) (zS0 g) = true ∧ (zLa g).stackTraces = false
/-- a later state of the same run: the tables warmer, the old cells as they were -/
def zU (g : Zg) (U : State) : Prop := (zS0 g).WarmedH U.vm ∧ (zS0 g).heap.size ≤ U.heap.size ∧ ∀ q : Nat, q < (zS0 g).heap.size → U.heap[q]? = (zS0 g).heap[q]?
/-- the heap holds what the abstract heap says -/
def zRel (g : Zg) (G : zHG) (H : Heap) : Prop := ∃ ws : va_W, va_P (zD g) zcl ws H ∧ va_D (zA g) ws ∧ ∀ (a : Nat) (w : (Nat × Nat) × va_E), G a = some w → (a, w.2) ∈ ws
def zroom (d mc ms : Nat) : Room := { frames := d, cells := mc, slots := ms, locals := 64 * d }
def zPc (g : Zg) (as : List Value) (G : zHG) : Array Value → State → Prop := fun av U => av = as.toArray ∧ zRel g G U.heap ∧ zU g U
def zQ (g : Zg) (P : Option Value → zHG → Prop) : Array Value → State → Outcome → State → Prop := fun _ st oc t => (∃ (r : Option Value) (G' : zHG), oc = .returned r ∧ P r G' ∧ zRel g G' t.heap) ∧ va_F (zA g) st t
/-- THE CONTRACT: called with these arguments over this abstract heap, the method returns, and P of the answer and the abstract heap then -/
def ZM (g : Zg) (y : MethodName) (cc : ByteArray) (nL : Nat) (ret : Option FieldType) (d mc ms : Nat) (as : List Value) (G : zHG) (P : Option Value → zHG → Prop) : Prop :=
  Met (zLa g) y (ws_ y cc nL ret) (zroom d mc ms) (zPc g as G) (zQ g P) mc ms (zA g)
/-- the walk's fixed part -/
abbrev Zx : Type := Program × Env × Room × State × MethodId × (Array Value) × (List Frame) × Method × Code × (State → Prop)
abbrev xP (X : Zx) : Program := X.1
abbrev xE (X : Zx) : Env := X.2.1
abbrev xR (X : Zx) : Room := X.2.2.1
abbrev xS (X : Zx) : State := X.2.2.2.1
abbrev xM (X : Zx) : MethodId := X.2.2.2.2.1
abbrev xA (X : Zx) : Array Value := X.2.2.2.2.2.1
abbrev xB (X : Zx) : List Frame := X.2.2.2.2.2.2.1
abbrev xMe (X : Zx) : Method := X.2.2.2.2.2.2.2.1
abbrev xC (X : Zx) : Code := X.2.2.2.2.2.2.2.2.1
abbrev xQ (X : Zx) : State → Prop := X.2.2.2.2.2.2.2.2.2
def ZW (g : Zg) (X : Zx) (u v : Nat) (G : zHG) (pc : Nat) (L : List (Nat × Value)) (st : List Value) : Prop :=
  ∀ (H : Heap) (locs : List Loc) (ls : Array Slot) (cs ss : Nat), zRel g G H → va_S (zA g) (xS X).heap H locs → cs ≤ u → ss ≤ v → lv_has ls (xC X).maxLocals L →
    W (xP X) (zLa g) (xE X) (xR X) (xS X) (xM X) (xA X) (xB X) (xMe X) (xC X) H locs cs ss (xQ X) (F0 (xM X) pc ls st)
def zOk (g : Zg) (X : Zx) (own : String) (cc : ByteArray) (nL : Nat) (ret : Option FieldType) (d mc ms : Nat) : Prop :=
  (xP X).tables.exec = Jvm.exec ∧ (xC X).code = cc ∧ (xMe X).sig.returnType = ret ∧ (xC X).maxLocals = nL ∧ (xS X).vm.findClass own = some (xM X).cls ∧ (∀ w ∈ lw_all, w.before (xA X) (xS X) = true) ∧ (xMe X).locks = false ∧ xR X = zroom d mc ms ∧ zU g (xS X) ∧ va_K (zD g) zcl (ztys g) (xS X) ∧ zG g
section ZCore
variable {g : Zg} {X : Zx} {own : String} {cc : ByteArray} {nL : Nat} {ret : Option FieldType} {d mc ms : Nat}
theorem zOk.exec (h : zOk g X own cc nL ret d mc ms) : (xP X).tables.exec = Jvm.exec := h.1
theorem zOk.code (h : zOk g X own cc nL ret d mc ms) : (xC X).code = cc := h.2.1
theorem zOk.rt (h : zOk g X own cc nL ret d mc ms) : (xMe X).sig.returnType = ret := h.2.2.1
theorem zOk.maxL (h : zOk g X own cc nL ret d mc ms) : (xC X).maxLocals = nL := h.2.2.2.1
theorem zOk.ow (h : zOk g X own cc nL ret d mc ms) : (xS X).vm.findClass own = some (xM X).cls := h.2.2.2.2.1
theorem zOk.hts (h : zOk g X own cc nL ret d mc ms) : ∀ w ∈ lw_all, w.before (xA X) (xS X) = true := h.2.2.2.2.2.1
theorem zOk.locks (h : zOk g X own cc nL ret d mc ms) : (xMe X).locks = false := h.2.2.2.2.2.2.1
theorem zOk.room (h : zOk g X own cc nL ret d mc ms) : xR X = zroom d mc ms := h.2.2.2.2.2.2.2.1
theorem zOk.st (h : zOk g X own cc nL ret d mc ms) : zU g (xS X) := h.2.2.2.2.2.2.2.2.1
theorem zOk.K (h : zOk g X own cc nL ret d mc ms) : va_K (zD g) zcl (ztys g) (xS X) := h.2.2.2.2.2.2.2.2.2.1
theorem zOk.G (h : zOk g X own cc nL ret d mc ms) : zG g := h.2.2.2.2.2.2.2.2.2.2
theorem zU.K {U : State} (hG : zG g) (h : zU g U) : va_K (zD g) zcl (ztys g) U := va_K.moved h.1.alike hG.1
theorem zU.next {s U : State} {H : Heap} {locs : List Loc} (h : zU g s) (hS : va_S (zA g) s.heap H locs) (hH : U.heap = H) (hW : s.WarmedH U.vm) : zU g U := by
  refine ⟨State.WarmedH.trans h.1 hW, by rw [hH]; exact Nat.le_trans h.2.1 hS.1, fun q hq => ?_⟩
  rw [hH, hS.2.1 q (Nat.lt_of_lt_of_le hq h.2.1) (fun z => absurd hq (Nat.not_lt.mpr z))]
  exact h.2.2 q hq
theorem zA_new {s : State} (h : zU g s) : ∀ q : Nat, s.heap.size ≤ q → zA g q := fun _ hq => Nat.le_trans h.2.1 hq
theorem zPc_blind {as : List Value} {G : zHG} : FrameBlind (zPc g as G) := fun _ _ _ _ q => q
theorem ZM_mk {y : MethodName} {as : List Value} {G : zHG} {P : Option Value → zHG → Prop} (hG : zG g) (hy : plainName y.cls = true) (hn : (lg_sl as).length ≤ nL)
    (body : ∀ X : Zx, zOk g X y.cls cc nL ret d mc ms → (xMe X).name = y.name → xQ X = MQ (xB X) (zQ g P) (xA X) (xS X) mc ms (zA g) → ZW g X 0 0 G 0 (lv_args 0 as) []) : ZM g y cc nL ret d mc ms as G P := by
  refine Met.ofW (cc := cc) (maxL := nL) (ret := ret) hy rfl ?_
  intro p e s m args below meth c s₁ B hml hv
  obtain ⟨rfl, hR, hU⟩ := hv
  have hts := atoms_spec (ws := ws_ y cc nL ret) B.pre
  have hl := lv_entry as (n := nL) hn
  rw [lg_entry_eq]
  have hb := body (p, e, zroom d mc ms, s, m, as.toArray, below, meth, c, MQ below (zQ g P) as.toArray s mc ms (zA g))
    ⟨B.exec, B.bytes, B.returns, hml, findClass_of_methodNamed B.named, fun w h => hts w (List.mem_cons_of_mem _ h), B.notSynchronized, rfl, hU, zU.K hG hU, hG⟩
    (name_of_methodNamed B.named B.method).1 rfl
  exact hb s.heap [] _ 0 0 hR va_S.rf (Nat.le_refl _) (Nat.le_refl _) (by rw [show (xC (p, e, zroom d mc ms, s, m, as.toArray, below, meth, c, MQ below (zQ g P) as.toArray s mc ms (zA g))).maxLocals = nL from hml]; exact hl)
theorem z_widen {u v u' v' : Nat} {G : zHG} {pc : Nat} {L : List (Nat × Value)} {st : List Value} (h1 : u ≤ u') (h2 : v ≤ v') (k : ZW g X u' v' G pc L st) : ZW g X u v G pc L st :=
  fun H locs ls cs ss hR hS hu hv hL => k H locs ls cs ss hR hS (Nat.le_trans hu h1) (Nat.le_trans hv h2) hL
/-- fewer cells are spoken of, other ghost labels -/
theorem z_forget {u v : Nat} {G G' : zHG} {pc : Nat} {L : List (Nat × Value)} {st : List Value} (h : ∀ (a : Nat) (w : (Nat × Nat) × va_E), G' a = some w → ∃ lb, G a = some (lb, w.2)) (k : ZW g X u v G' pc L st) : ZW g X u v G pc L st :=
  fun H locs ls cs ss hR hS hu hv hL => k H locs ls cs ss (by
    obtain ⟨ws, h1, h2, h3⟩ := hR
    exact ⟨ws, h1, h2, fun a w hw => by obtain ⟨lb, e⟩ := h a w hw; exact h3 a (lb, w.2) e⟩) hS hu hv hL
theorem z_sub {u v : Nat} {G : zHG} {pc : Nat} {L L' : List (Nat × Value)} {st : List Value} (ks : List Nat) (hl : lv_pick L ks = L') (k : ZW g X u v G pc L' st) : ZW g X u v G pc L st :=
  fun H locs ls cs ss hR hS hu hv hL => k H locs ls cs ss hR hS hu hv (lv_sub hL ks hl)
theorem z_eqL {u v : Nat} {G : zHG} {pc : Nat} {L L' : List (Nat × Value)} {st st' : List Value} (hl : L = L') (hs : st = st') (k : ZW g X u v G pc L' st') : ZW g X u v G pc L st := by rw [hl, hs]; exact k
/-- a local is written -/
def zrm : List (Nat × Value) → Nat → List (Nat × Value)
  | [], _ => []
  | (j, w) :: t, i => bif Nat.beq j i then zrm t i else (j, w) :: zrm t i
def zst : List (Nat × Value) → Nat → Value → List (Nat × Value)
  | [], i, v => [(i, v)]
  | (j, w) :: t, i, v => bif Nat.beq j i then (i, v) :: zrm t i else (j, w) :: zst t i v
def zcat2 : Value → Bool
  | .long _ => true
  | .double _ => true
  | _ => false
theorem zcat2_iff (v : Value) : (v.category == 2) = zcat2 v := by cases v <;> rfl
/-- no two-slot value overlaps the place i (nor i + 1, where two slots are written) -/
def zfr : List (Nat × Value) → Nat → Bool
  | [], _ => true
  | (j, w) :: t, i => !((j + 1 == i) && zcat2 w) && zfr t i
def zfr2 : List (Nat × Value) → Nat → Bool
  | [], _ => true
  | (j, w) :: t, i => !((j + 1 == i) && zcat2 w) && (!(j == i + 1) && zfr2 t i)
theorem zrm_mem : ∀ (L : List (Nat × Value)) (i : Nat) (q : Nat × Value), q ∈ zrm L i → q ∈ L ∧ q.1 ≠ i
  | [], _, _, h => by cases h
  | (j, w) :: t, i, q, h => by
    unfold zrm at h
    cases hb : Nat.beq j i with
    | true => rw [hb] at h; exact ⟨List.mem_cons_of_mem _ (zrm_mem t i q h).1, (zrm_mem t i q h).2⟩
    | false =>
      rw [hb] at h
      rcases List.mem_cons.mp h with e | e
      · subst e
        exact ⟨List.mem_cons_self, fun z => by have z : j = i := z; subst z; rw [Nat.beq_refl] at hb; cases hb⟩
      · exact ⟨List.mem_cons_of_mem _ (zrm_mem t i q e).1, (zrm_mem t i q e).2⟩
theorem zst_mem : ∀ (L : List (Nat × Value)) (i : Nat) (v : Value) (q : Nat × Value), q ∈ zst L i v → q = (i, v) ∨ (q ∈ L ∧ q.1 ≠ i)
  | [], i, v, q, h => Or.inl (List.mem_singleton.mp h)
  | (j, w) :: t, i, v, q, h => by
    unfold zst at h
    cases hb : Nat.beq j i with
    | true =>
      rw [hb] at h
      rcases List.mem_cons.mp h with e | e
      · exact Or.inl e
      · exact Or.inr ⟨List.mem_cons_of_mem _ (zrm_mem t i q e).1, (zrm_mem t i q e).2⟩
    | false =>
      rw [hb] at h
      rcases List.mem_cons.mp h with e | e
      · subst e
        exact Or.inr ⟨List.mem_cons_self, fun z => by have z : j = i := z; subst z; rw [Nat.beq_refl] at hb; cases hb⟩
      · rcases zst_mem t i v q e with z | z
        · exact Or.inl z
        · exact Or.inr ⟨List.mem_cons_of_mem _ z.1, z.2⟩
theorem zfr_mem : ∀ (L : List (Nat × Value)) (i : Nat), zfr L i = true → ∀ q ∈ L, (q.1 + 1 == i && q.2.category == 2) = false
  | [], _, _, q, h => by cases h
  | (j, w) :: t, i, hf, q, h => by
    unfold zfr at hf
    rw [Bool.and_eq_true, Bool.not_eq_true'] at hf
    rcases List.mem_cons.mp h with e | e
    · subst e
      rw [zcat2_iff]
      exact hf.1
    · exact zfr_mem t i hf.2 q e
theorem zfr2_mem : ∀ (L : List (Nat × Value)) (i : Nat), zfr2 L i = true → ∀ q ∈ L, (q.1 + 1 == i && q.2.category == 2) = false ∧ (q.1 == i + 1) = false
  | [], _, _, q, h => by cases h
  | (j, w) :: t, i, hf, q, h => by
    unfold zfr2 at hf
    rw [Bool.and_eq_true, Bool.not_eq_true', Bool.and_eq_true, Bool.not_eq_true'] at hf
    rcases List.mem_cons.mp h with e | e
    · subst e
      rw [zcat2_iff]
      exact ⟨hf.1, hf.2.1⟩
    · exact zfr2_mem t i hf.2.2 q e
theorem zst_has {ls : Array Slot} {n : Nat} {L : List (Nat × Value)} {i : Nat} {v : Value} (hf : zfr L i = true) (h : lv_has ls n ((i, v) :: L.filter (fun q => !(q.1 == i) && !(q.1 + 1 == i && q.2.category == 2)))) : lv_has ls n (zst L i v) := by
  refine ⟨h.1, h.2.1, fun q hq => h.2.2 q ?_⟩
  rcases zst_mem L i v q hq with e | ⟨e1, e2⟩
  · rw [e]; exact List.mem_cons_self
  · refine List.mem_cons_of_mem _ (List.mem_filter.mpr ⟨e1, ?_⟩)
    rw [zfr_mem L i hf q e1]
    simp [e2]
theorem zst_has2 {ls : Array Slot} {n : Nat} {L : List (Nat × Value)} {i : Nat} {v : Value} (hf : zfr2 L i = true) (h : lv_has ls n ((i, v) :: L.filter (fun q => !(q.1 == i) && (!(q.1 == i + 1) && !(q.1 + 1 == i && q.2.category == 2))))) : lv_has ls n (zst L i v) := by
  refine ⟨h.1, h.2.1, fun q hq => h.2.2 q ?_⟩
  rcases zst_mem L i v q hq with e | ⟨e1, e2⟩
  · rw [e]; exact List.mem_cons_self
  · refine List.mem_cons_of_mem _ (List.mem_filter.mpr ⟨e1, ?_⟩)
    rw [(zfr2_mem L i hf q e1).1, (zfr2_mem L i hf q e1).2]
    simp [e2]
end ZCore
section ZRows
variable {g : Zg} {X : Zx} {own : String} {cc : ByteArray} {nL : Nat} {ret : Option FieldType} {d mc ms : Nat} {u v pc : Nat} {G : zHG} {L : List (Nat × Value)} {st : List Value}
theorem z_iconst (hX : zOk g X own cc nL ret d mc ms) {n : Int} {w : Int32} (hdg : decode cc pc = .ok (.iconst n, 1)) (p : Nat) (hp : pc + 1 = p) (hw : Int32.ofInt n = w) (k : ZW g X u v G p L (.int w :: st)) : ZW g X u v G pc L st := by
  subst hp
  exact fun H locs ls cs ss hR hS hu hv hL => lv_iconst hX.exec hX.code hdg hw (k H locs ls cs ss hR hS hu hv hL)
theorem z_bipush (hX : zOk g X own cc nL ret d mc ms) {n : Int} {w : Int32} (hdg : decode cc pc = .ok (.bipush n, 2)) (p : Nat) (hp : pc + 2 = p) (hw : (Int8.ofInt n).toInt32 = w) (k : ZW g X u v G p L (.int w :: st)) : ZW g X u v G pc L st := by
  subst hp
  exact fun H locs ls cs ss hR hS hu hv hL => lv_bipush hX.exec hX.code hdg hw (k H locs ls cs ss hR hS hu hv hL)
theorem z_sipush (hX : zOk g X own cc nL ret d mc ms) {n : Int} {w : Int32} (hdg : decode cc pc = .ok (.sipush n, 3)) (p : Nat) (hp : pc + 3 = p) (hw : (Int16.ofInt n).toInt32 = w) (k : ZW g X u v G p L (.int w :: st)) : ZW g X u v G pc L st := by
  subst hp
  exact fun H locs ls cs ss hR hS hu hv hL => lv_sipush hX.exec hX.code hdg hw (k H locs ls cs ss hR hS hu hv hL)
theorem z_lconst (hX : zOk g X own cc nL ret d mc ms) {n : Fin 2} {w : Int64} (hdg : decode cc pc = .ok (.lconst n, 1)) (p : Nat) (hp : pc + 1 = p) (hw : Int64.ofNat (n : Nat) = w) (k : ZW g X u v G p L (.long w :: st)) : ZW g X u v G pc L st := by
  subst hp
  exact fun H locs ls cs ss hR hS hu hv hL => lv_lconst hX.exec hX.code hdg hw (k H locs ls cs ss hR hS hu hv hL)
theorem z_null (hX : zOk g X own cc nL ret d mc ms)  (hdg : decode cc pc = .ok (.aconst_null, 1)) (p : Nat) (hp : pc + 1 = p)  (k : ZW g X u v G p L (.null :: st)) : ZW g X u v G pc L st := by
  subst hp
  exact fun H locs ls cs ss hR hS hu hv hL => lv_null hX.exec hX.code hdg  (k H locs ls cs ss hR hS hu hv hL)
theorem z_fconst0 (hX : zOk g X own cc nL ret d mc ms)  (hdg : decode cc pc = .ok (.fconst 0, 1)) (p : Nat) (hp : pc + 1 = p)  (k : ZW g X u v G p L (.float FP.fconst0 :: st)) : ZW g X u v G pc L st := by
  subst hp
  exact fun H locs ls cs ss hR hS hu hv hL => lv_fconst0 hX.exec hX.code hdg  (k H locs ls cs ss hR hS hu hv hL)
theorem z_fconst1 (hX : zOk g X own cc nL ret d mc ms)  (hdg : decode cc pc = .ok (.fconst 1, 1)) (p : Nat) (hp : pc + 1 = p)  (k : ZW g X u v G p L (.float FP.fconst1 :: st)) : ZW g X u v G pc L st := by
  subst hp
  exact fun H locs ls cs ss hR hS hu hv hL => lv_fconst1 hX.exec hX.code hdg  (k H locs ls cs ss hR hS hu hv hL)
theorem z_dconst0 (hX : zOk g X own cc nL ret d mc ms)  (hdg : decode cc pc = .ok (.dconst 0, 1)) (p : Nat) (hp : pc + 1 = p)  (k : ZW g X u v G p L (.double FP.dconst0 :: st)) : ZW g X u v G pc L st := by
  subst hp
  exact fun H locs ls cs ss hR hS hu hv hL => lv_dconst0 hX.exec hX.code hdg  (k H locs ls cs ss hR hS hu hv hL)
theorem z_dconst1 (hX : zOk g X own cc nL ret d mc ms)  (hdg : decode cc pc = .ok (.dconst 1, 1)) (p : Nat) (hp : pc + 1 = p)  (k : ZW g X u v G p L (.double FP.dconst1 :: st)) : ZW g X u v G pc L st := by
  subst hp
  exact fun H locs ls cs ss hR hS hu hv hL => lv_dconst1 hX.exec hX.code hdg  (k H locs ls cs ss hR hS hu hv hL)
theorem z_iload_n (hX : zOk g X own cc nL ret d mc ms) {k : Fin 4} {i : Nat} {x : Int32} (hdg : decode cc pc = .ok (.iload_n k, 1)) (p : Nat) (hp : pc + 1 = p) (hi : (k : Nat) = i) (pl : Nat) (hl : L[pl]? = some (i, .int x)) (kk : ZW g X u v G p L (.int x :: st)) : ZW g X u v G pc L st := by
  subst hp
  exact fun H locs ls cs ss hR hS hu hv hL => lv_iload_n hX.exec hX.code hdg hi (lv_at hL pl hl) (kk H locs ls cs ss hR hS hu hv hL)
theorem z_iload (hX : zOk g X own cc nL ret d mc ms) {i : Nat} {x : Int32} (hdg : decode cc pc = .ok (.iload i, 2)) (p : Nat) (hp : pc + 2 = p) (pl : Nat) (hl : L[pl]? = some (i, .int x)) (kk : ZW g X u v G p L (.int x :: st)) : ZW g X u v G pc L st := by
  subst hp
  exact fun H locs ls cs ss hR hS hu hv hL => lv_iload hX.exec hX.code hdg (lv_at hL pl hl) (kk H locs ls cs ss hR hS hu hv hL)
theorem z_lload_n (hX : zOk g X own cc nL ret d mc ms) {k : Fin 4} {i : Nat} {x : Int64} (hdg : decode cc pc = .ok (.lload_n k, 1)) (p : Nat) (hp : pc + 1 = p) (hi : (k : Nat) = i) (pl : Nat) (hl : L[pl]? = some (i, .long x)) (kk : ZW g X u v G p L (.long x :: st)) : ZW g X u v G pc L st := by
  subst hp
  exact fun H locs ls cs ss hR hS hu hv hL => lv_lload_n hX.exec hX.code hdg hi (lv_at hL pl hl) (kk H locs ls cs ss hR hS hu hv hL)
theorem z_lload (hX : zOk g X own cc nL ret d mc ms) {i : Nat} {x : Int64} (hdg : decode cc pc = .ok (.lload i, 2)) (p : Nat) (hp : pc + 2 = p) (pl : Nat) (hl : L[pl]? = some (i, .long x)) (kk : ZW g X u v G p L (.long x :: st)) : ZW g X u v G pc L st := by
  subst hp
  exact fun H locs ls cs ss hR hS hu hv hL => lv_lload hX.exec hX.code hdg (lv_at hL pl hl) (kk H locs ls cs ss hR hS hu hv hL)
theorem z_aload_n (hX : zOk g X own cc nL ret d mc ms) {k : Fin 4} {i : Nat} {x : Nat} (hdg : decode cc pc = .ok (.aload_n k, 1)) (p : Nat) (hp : pc + 1 = p) (hi : (k : Nat) = i) (pl : Nat) (hl : L[pl]? = some (i, .ref x)) (kk : ZW g X u v G p L (.ref x :: st)) : ZW g X u v G pc L st := by
  subst hp
  exact fun H locs ls cs ss hR hS hu hv hL => lv_aload_n hX.exec hX.code hdg hi (lv_at hL pl hl) (kk H locs ls cs ss hR hS hu hv hL)
theorem z_aload (hX : zOk g X own cc nL ret d mc ms) {i : Nat} {x : Nat} (hdg : decode cc pc = .ok (.aload i, 2)) (p : Nat) (hp : pc + 2 = p) (pl : Nat) (hl : L[pl]? = some (i, .ref x)) (kk : ZW g X u v G p L (.ref x :: st)) : ZW g X u v G pc L st := by
  subst hp
  exact fun H locs ls cs ss hR hS hu hv hL => lv_aload hX.exec hX.code hdg (lv_at hL pl hl) (kk H locs ls cs ss hR hS hu hv hL)
theorem z_fload_n (hX : zOk g X own cc nL ret d mc ms) {k : Fin 4} {i : Nat} {x : UInt32} (hdg : decode cc pc = .ok (.fload_n k, 1)) (p : Nat) (hp : pc + 1 = p) (hi : (k : Nat) = i) (pl : Nat) (hl : L[pl]? = some (i, .float x)) (kk : ZW g X u v G p L (.float x :: st)) : ZW g X u v G pc L st := by
  subst hp
  exact fun H locs ls cs ss hR hS hu hv hL => lv_fload_n hX.exec hX.code hdg hi (lv_at hL pl hl) (kk H locs ls cs ss hR hS hu hv hL)
theorem z_fload (hX : zOk g X own cc nL ret d mc ms) {i : Nat} {x : UInt32} (hdg : decode cc pc = .ok (.fload i, 2)) (p : Nat) (hp : pc + 2 = p) (pl : Nat) (hl : L[pl]? = some (i, .float x)) (kk : ZW g X u v G p L (.float x :: st)) : ZW g X u v G pc L st := by
  subst hp
  exact fun H locs ls cs ss hR hS hu hv hL => lv_fload hX.exec hX.code hdg (lv_at hL pl hl) (kk H locs ls cs ss hR hS hu hv hL)
theorem z_dload_n (hX : zOk g X own cc nL ret d mc ms) {k : Fin 4} {i : Nat} {x : UInt64} (hdg : decode cc pc = .ok (.dload_n k, 1)) (p : Nat) (hp : pc + 1 = p) (hi : (k : Nat) = i) (pl : Nat) (hl : L[pl]? = some (i, .double x)) (kk : ZW g X u v G p L (.double x :: st)) : ZW g X u v G pc L st := by
  subst hp
  exact fun H locs ls cs ss hR hS hu hv hL => lv_dload_n hX.exec hX.code hdg hi (lv_at hL pl hl) (kk H locs ls cs ss hR hS hu hv hL)
theorem z_dload (hX : zOk g X own cc nL ret d mc ms) {i : Nat} {x : UInt64} (hdg : decode cc pc = .ok (.dload i, 2)) (p : Nat) (hp : pc + 2 = p) (pl : Nat) (hl : L[pl]? = some (i, .double x)) (kk : ZW g X u v G p L (.double x :: st)) : ZW g X u v G pc L st := by
  subst hp
  exact fun H locs ls cs ss hR hS hu hv hL => lv_dload hX.exec hX.code hdg (lv_at hL pl hl) (kk H locs ls cs ss hR hS hu hv hL)
theorem z_aload_nN (hX : zOk g X own cc nL ret d mc ms) {k : Fin 4} {i : Nat} (hdg : decode cc pc = .ok (.aload_n k, 1)) (p : Nat) (hp : pc + 1 = p) (hi : (k : Nat) = i) (pl : Nat) (hl : L[pl]? = some (i, .null)) (kk : ZW g X u v G p L (.null :: st)) : ZW g X u v G pc L st := by
  subst hp
  exact fun H locs ls cs ss hR hS hu hv hL => lv_aload_nN hX.exec hX.code hdg hi (lv_at hL pl hl) (kk H locs ls cs ss hR hS hu hv hL)
theorem z_aloadN (hX : zOk g X own cc nL ret d mc ms) {i : Nat} (hdg : decode cc pc = .ok (.aload i, 2)) (p : Nat) (hp : pc + 2 = p) (pl : Nat) (hl : L[pl]? = some (i, .null)) (kk : ZW g X u v G p L (.null :: st)) : ZW g X u v G pc L st := by
  subst hp
  exact fun H locs ls cs ss hR hS hu hv hL => lv_aloadN hX.exec hX.code hdg (lv_at hL pl hl) (kk H locs ls cs ss hR hS hu hv hL)
theorem z_istore_n (hX : zOk g X own cc nL ret d mc ms) {k : Fin 4} {i : Nat} {x : Int32} {L' : List (Nat × Value)} (hdg : decode cc pc = .ok (.istore_n k, 1)) (p : Nat) (hp : pc + 1 = p) (hi : (k : Nat) = i) (hn : i < nL) (hf : zfr L i = true) (hl : zst L i (.int x) = L') (kk : ZW g X u v G p L' st) : ZW g X u v G pc L (.int x :: st) := by
  subst hp
  exact fun H locs ls cs ss hR hS hu hv hL => lv_istore_n (lv := L) hX.exec hX.code hdg hi hL (by rw [hX.maxL]; exact hn) rfl (fun ls' h' => kk H locs ls' cs ss hR hS hu hv (by rw [← hl]; exact zst_has hf h'))
theorem z_istore (hX : zOk g X own cc nL ret d mc ms) {i : Nat} {x : Int32} {L' : List (Nat × Value)} (hdg : decode cc pc = .ok (.istore i, 2)) (p : Nat) (hp : pc + 2 = p) (hn : i < nL) (hf : zfr L i = true) (hl : zst L i (.int x) = L') (kk : ZW g X u v G p L' st) : ZW g X u v G pc L (.int x :: st) := by
  subst hp
  exact fun H locs ls cs ss hR hS hu hv hL => lv_istore (lv := L) hX.exec hX.code hdg hL (by rw [hX.maxL]; exact hn) rfl (fun ls' h' => kk H locs ls' cs ss hR hS hu hv (by rw [← hl]; exact zst_has hf h'))
theorem z_lstore_n (hX : zOk g X own cc nL ret d mc ms) {k : Fin 4} {i : Nat} {x : Int64} {L' : List (Nat × Value)} (hdg : decode cc pc = .ok (.lstore_n k, 1)) (p : Nat) (hp : pc + 1 = p) (hi : (k : Nat) = i) (hn : i + 1 < nL) (hf : zfr2 L i = true) (hl : zst L i (.long x) = L') (kk : ZW g X u v G p L' st) : ZW g X u v G pc L (.long x :: st) := by
  subst hp
  exact fun H locs ls cs ss hR hS hu hv hL => lv_lstore_n (lv := L) hX.exec hX.code hdg hi hL (by rw [hX.maxL]; exact hn) rfl (fun ls' h' => kk H locs ls' cs ss hR hS hu hv (by rw [← hl]; exact zst_has2 hf h'))
theorem z_lstore (hX : zOk g X own cc nL ret d mc ms) {i : Nat} {x : Int64} {L' : List (Nat × Value)} (hdg : decode cc pc = .ok (.lstore i, 2)) (p : Nat) (hp : pc + 2 = p) (hn : i + 1 < nL) (hf : zfr2 L i = true) (hl : zst L i (.long x) = L') (kk : ZW g X u v G p L' st) : ZW g X u v G pc L (.long x :: st) := by
  subst hp
  exact fun H locs ls cs ss hR hS hu hv hL => lv_lstore (lv := L) hX.exec hX.code hdg hL (by rw [hX.maxL]; exact hn) rfl (fun ls' h' => kk H locs ls' cs ss hR hS hu hv (by rw [← hl]; exact zst_has2 hf h'))
theorem z_astore_n (hX : zOk g X own cc nL ret d mc ms) {k : Fin 4} {i : Nat} {x : Nat} {L' : List (Nat × Value)} (hdg : decode cc pc = .ok (.astore_n k, 1)) (p : Nat) (hp : pc + 1 = p) (hi : (k : Nat) = i) (hn : i < nL) (hf : zfr L i = true) (hl : zst L i (.ref x) = L') (kk : ZW g X u v G p L' st) : ZW g X u v G pc L (.ref x :: st) := by
  subst hp
  exact fun H locs ls cs ss hR hS hu hv hL => lv_astore_n (lv := L) hX.exec hX.code hdg hi hL (by rw [hX.maxL]; exact hn) rfl (fun ls' h' => kk H locs ls' cs ss hR hS hu hv (by rw [← hl]; exact zst_has hf h'))
theorem z_astore (hX : zOk g X own cc nL ret d mc ms) {i : Nat} {x : Nat} {L' : List (Nat × Value)} (hdg : decode cc pc = .ok (.astore i, 2)) (p : Nat) (hp : pc + 2 = p) (hn : i < nL) (hf : zfr L i = true) (hl : zst L i (.ref x) = L') (kk : ZW g X u v G p L' st) : ZW g X u v G pc L (.ref x :: st) := by
  subst hp
  exact fun H locs ls cs ss hR hS hu hv hL => lv_astore (lv := L) hX.exec hX.code hdg hL (by rw [hX.maxL]; exact hn) rfl (fun ls' h' => kk H locs ls' cs ss hR hS hu hv (by rw [← hl]; exact zst_has hf h'))
theorem z_fstore_n (hX : zOk g X own cc nL ret d mc ms) {k : Fin 4} {i : Nat} {x : UInt32} {L' : List (Nat × Value)} (hdg : decode cc pc = .ok (.fstore_n k, 1)) (p : Nat) (hp : pc + 1 = p) (hi : (k : Nat) = i) (hn : i < nL) (hf : zfr L i = true) (hl : zst L i (.float x) = L') (kk : ZW g X u v G p L' st) : ZW g X u v G pc L (.float x :: st) := by
  subst hp
  exact fun H locs ls cs ss hR hS hu hv hL => lv_fstore_n (lv := L) hX.exec hX.code hdg hi hL (by rw [hX.maxL]; exact hn) rfl (fun ls' h' => kk H locs ls' cs ss hR hS hu hv (by rw [← hl]; exact zst_has hf h'))
theorem z_fstore (hX : zOk g X own cc nL ret d mc ms) {i : Nat} {x : UInt32} {L' : List (Nat × Value)} (hdg : decode cc pc = .ok (.fstore i, 2)) (p : Nat) (hp : pc + 2 = p) (hn : i < nL) (hf : zfr L i = true) (hl : zst L i (.float x) = L') (kk : ZW g X u v G p L' st) : ZW g X u v G pc L (.float x :: st) := by
  subst hp
  exact fun H locs ls cs ss hR hS hu hv hL => lv_fstore (lv := L) hX.exec hX.code hdg hL (by rw [hX.maxL]; exact hn) rfl (fun ls' h' => kk H locs ls' cs ss hR hS hu hv (by rw [← hl]; exact zst_has hf h'))
theorem z_dstore_n (hX : zOk g X own cc nL ret d mc ms) {k : Fin 4} {i : Nat} {x : UInt64} {L' : List (Nat × Value)} (hdg : decode cc pc = .ok (.dstore_n k, 1)) (p : Nat) (hp : pc + 1 = p) (hi : (k : Nat) = i) (hn : i + 1 < nL) (hf : zfr2 L i = true) (hl : zst L i (.double x) = L') (kk : ZW g X u v G p L' st) : ZW g X u v G pc L (.double x :: st) := by
  subst hp
  exact fun H locs ls cs ss hR hS hu hv hL => lv_dstore_n (lv := L) hX.exec hX.code hdg hi hL (by rw [hX.maxL]; exact hn) rfl (fun ls' h' => kk H locs ls' cs ss hR hS hu hv (by rw [← hl]; exact zst_has2 hf h'))
theorem z_dstore (hX : zOk g X own cc nL ret d mc ms) {i : Nat} {x : UInt64} {L' : List (Nat × Value)} (hdg : decode cc pc = .ok (.dstore i, 2)) (p : Nat) (hp : pc + 2 = p) (hn : i + 1 < nL) (hf : zfr2 L i = true) (hl : zst L i (.double x) = L') (kk : ZW g X u v G p L' st) : ZW g X u v G pc L (.double x :: st) := by
  subst hp
  exact fun H locs ls cs ss hR hS hu hv hL => lv_dstore (lv := L) hX.exec hX.code hdg hL (by rw [hX.maxL]; exact hn) rfl (fun ls' h' => kk H locs ls' cs ss hR hS hu hv (by rw [← hl]; exact zst_has2 hf h'))
theorem z_astore_nN (hX : zOk g X own cc nL ret d mc ms) {k : Fin 4} {i : Nat} {L' : List (Nat × Value)} (hdg : decode cc pc = .ok (.astore_n k, 1)) (p : Nat) (hp : pc + 1 = p) (hi : (k : Nat) = i) (hn : i < nL) (hf : zfr L i = true) (hl : zst L i .null = L') (kk : ZW g X u v G p L' st) : ZW g X u v G pc L (.null :: st) := by
  subst hp
  exact fun H locs ls cs ss hR hS hu hv hL => lv_astore_nN (lv := L) hX.exec hX.code hdg hi hL (by rw [hX.maxL]; exact hn) rfl (fun ls' h' => kk H locs ls' cs ss hR hS hu hv (by rw [← hl]; exact zst_has hf h'))
theorem z_iinc (hX : zOk g X own cc nL ret d mc ms) {i : Nat} {n : Int} {x w : Int32} {L' : List (Nat × Value)} (hdg : decode cc pc = .ok (.iinc i n, 3)) (p : Nat) (hp : pc + 3 = p) (pl : Nat) (hk : L[pl]? = some (i, .int x)) (hw : x + Int32.ofInt n = w) (hn : i < nL) (hf : zfr L i = true) (hl : zst L i (.int w) = L') (kk : ZW g X u v G p L' st) : ZW g X u v G pc L st := by
  subst hp
  exact fun H locs ls cs ss hR hS hu hv hL => lv_iinc (lv := L) (k := pl) hX.exec hX.code hdg hL hk hw (by rw [hX.maxL]; exact hn) rfl (fun ls' h' => kk H locs ls' cs ss hR hS hu hv (by rw [← hl]; exact zst_has hf h'))
theorem z_iadd (hX : zOk g X own cc nL ret d mc ms) {x y w : Int32} (hdg : decode cc pc = .ok (.iadd, 1)) (p : Nat) (hp : pc + 1 = p) (hw : x + y = w) (k : ZW g X u v G p L (.int w :: st)) : ZW g X u v G pc L (.int y :: .int x :: st) := by
  subst hp
  exact fun H locs ls cs ss hR hS hu hv hL => lv_iadd hX.exec hX.code hdg (by rw [hw]; exact k H locs ls cs ss hR hS hu hv hL)
theorem z_isub (hX : zOk g X own cc nL ret d mc ms) {x y w : Int32} (hdg : decode cc pc = .ok (.isub, 1)) (p : Nat) (hp : pc + 1 = p) (hw : x - y = w) (k : ZW g X u v G p L (.int w :: st)) : ZW g X u v G pc L (.int y :: .int x :: st) := by
  subst hp
  exact fun H locs ls cs ss hR hS hu hv hL => lv_isub hX.exec hX.code hdg (by rw [hw]; exact k H locs ls cs ss hR hS hu hv hL)
theorem z_imul (hX : zOk g X own cc nL ret d mc ms) {x y w : Int32} (hdg : decode cc pc = .ok (.imul, 1)) (p : Nat) (hp : pc + 1 = p) (hw : x * y = w) (k : ZW g X u v G p L (.int w :: st)) : ZW g X u v G pc L (.int y :: .int x :: st) := by
  subst hp
  exact fun H locs ls cs ss hR hS hu hv hL => lv_imul hX.exec hX.code hdg (by rw [hw]; exact k H locs ls cs ss hR hS hu hv hL)
theorem z_iand (hX : zOk g X own cc nL ret d mc ms) {x y w : Int32} (hdg : decode cc pc = .ok (.iand, 1)) (p : Nat) (hp : pc + 1 = p) (hw : x &&& y = w) (k : ZW g X u v G p L (.int w :: st)) : ZW g X u v G pc L (.int y :: .int x :: st) := by
  subst hp
  exact fun H locs ls cs ss hR hS hu hv hL => lv_iand hX.exec hX.code hdg (by rw [hw]; exact k H locs ls cs ss hR hS hu hv hL)
theorem z_ior (hX : zOk g X own cc nL ret d mc ms) {x y w : Int32} (hdg : decode cc pc = .ok (.ior, 1)) (p : Nat) (hp : pc + 1 = p) (hw : x ||| y = w) (k : ZW g X u v G p L (.int w :: st)) : ZW g X u v G pc L (.int y :: .int x :: st) := by
  subst hp
  exact fun H locs ls cs ss hR hS hu hv hL => lv_ior hX.exec hX.code hdg (by rw [hw]; exact k H locs ls cs ss hR hS hu hv hL)
theorem z_ixor (hX : zOk g X own cc nL ret d mc ms) {x y w : Int32} (hdg : decode cc pc = .ok (.ixor, 1)) (p : Nat) (hp : pc + 1 = p) (hw : x ^^^ y = w) (k : ZW g X u v G p L (.int w :: st)) : ZW g X u v G pc L (.int y :: .int x :: st) := by
  subst hp
  exact fun H locs ls cs ss hR hS hu hv hL => lv_ixor hX.exec hX.code hdg (by rw [hw]; exact k H locs ls cs ss hR hS hu hv hL)
theorem z_ishl (hX : zOk g X own cc nL ret d mc ms) {x y w : Int32} (hdg : decode cc pc = .ok (.ishl, 1)) (p : Nat) (hp : pc + 1 = p) (hw : x <<< (y &&& 31) = w) (k : ZW g X u v G p L (.int w :: st)) : ZW g X u v G pc L (.int y :: .int x :: st) := by
  subst hp
  exact fun H locs ls cs ss hR hS hu hv hL => lv_ishl hX.exec hX.code hdg (by rw [hw]; exact k H locs ls cs ss hR hS hu hv hL)
theorem z_ishr (hX : zOk g X own cc nL ret d mc ms) {x y w : Int32} (hdg : decode cc pc = .ok (.ishr, 1)) (p : Nat) (hp : pc + 1 = p) (hw : x >>> (y &&& 31) = w) (k : ZW g X u v G p L (.int w :: st)) : ZW g X u v G pc L (.int y :: .int x :: st) := by
  subst hp
  exact fun H locs ls cs ss hR hS hu hv hL => lv_ishr hX.exec hX.code hdg (by rw [hw]; exact k H locs ls cs ss hR hS hu hv hL)
theorem z_idiv (hX : zOk g X own cc nL ret d mc ms) {x y w : Int32} (hdg : decode cc pc = .ok (.idiv, 1)) (p : Nat) (hp : pc + 1 = p) (hne : ¬ y = 0) (hw : x / y = w) (k : ZW g X u v G p L (.int w :: st)) : ZW g X u v G pc L (.int y :: .int x :: st) := by
  subst hp
  exact fun H locs ls cs ss hR hS hu hv hL => lv_idiv hX.exec hX.code hdg hne (by rw [hw]; exact k H locs ls cs ss hR hS hu hv hL)
theorem z_irem (hX : zOk g X own cc nL ret d mc ms) {x y w : Int32} (hdg : decode cc pc = .ok (.irem, 1)) (p : Nat) (hp : pc + 1 = p) (hne : ¬ y = 0) (hw : x - x / y * y = w) (k : ZW g X u v G p L (.int w :: st)) : ZW g X u v G pc L (.int y :: .int x :: st) := by
  subst hp
  exact fun H locs ls cs ss hR hS hu hv hL => lv_irem hX.exec hX.code hdg hne (by rw [hw]; exact k H locs ls cs ss hR hS hu hv hL)
theorem z_iushr (hX : zOk g X own cc nL ret d mc ms) {x y w : Int32} (hdg : decode cc pc = .ok (.iushr, 1)) (p : Nat) (hp : pc + 1 = p) (hw : (x.toUInt32 >>> (y.toUInt32 &&& Int32.toUInt32 31)).toInt32 = w) (k : ZW g X u v G p L (.int w :: st)) : ZW g X u v G pc L (.int y :: .int x :: st) := by
  subst hp
  exact fun H locs ls cs ss hR hS hu hv hL => lv_iushr hX.exec hX.code hdg hw (k H locs ls cs ss hR hS hu hv hL)
theorem z_ineg (hX : zOk g X own cc nL ret d mc ms) {x : Int32} (hdg : decode cc pc = .ok (.ineg, 1)) (p : Nat) (hp : pc + 1 = p)  (k : ZW g X u v G p L (.int (-x) :: st)) : ZW g X u v G pc L (.int x :: st) := by
  subst hp
  exact fun H locs ls cs ss hR hS hu hv hL => lv_ineg hX.exec hX.code hdg  (k H locs ls cs ss hR hS hu hv hL)
theorem z_ladd (hX : zOk g X own cc nL ret d mc ms) {x y : Int64} (hdg : decode cc pc = .ok (.ladd, 1)) (p : Nat) (hp : pc + 1 = p)  (k : ZW g X u v G p L (.long (x + y) :: st)) : ZW g X u v G pc L (.long y :: .long x :: st) := by
  subst hp
  exact fun H locs ls cs ss hR hS hu hv hL => lv_ladd hX.exec hX.code hdg  (k H locs ls cs ss hR hS hu hv hL)
theorem z_lsub (hX : zOk g X own cc nL ret d mc ms) {x y : Int64} (hdg : decode cc pc = .ok (.lsub, 1)) (p : Nat) (hp : pc + 1 = p)  (k : ZW g X u v G p L (.long (x - y) :: st)) : ZW g X u v G pc L (.long y :: .long x :: st) := by
  subst hp
  exact fun H locs ls cs ss hR hS hu hv hL => lv_lsub hX.exec hX.code hdg  (k H locs ls cs ss hR hS hu hv hL)
theorem z_lmul (hX : zOk g X own cc nL ret d mc ms) {x y : Int64} (hdg : decode cc pc = .ok (.lmul, 1)) (p : Nat) (hp : pc + 1 = p)  (k : ZW g X u v G p L (.long (x * y) :: st)) : ZW g X u v G pc L (.long y :: .long x :: st) := by
  subst hp
  exact fun H locs ls cs ss hR hS hu hv hL => lv_lmul hX.exec hX.code hdg  (k H locs ls cs ss hR hS hu hv hL)
theorem z_land (hX : zOk g X own cc nL ret d mc ms) {x y : Int64} (hdg : decode cc pc = .ok (.land, 1)) (p : Nat) (hp : pc + 1 = p)  (k : ZW g X u v G p L (.long (x &&& y) :: st)) : ZW g X u v G pc L (.long y :: .long x :: st) := by
  subst hp
  exact fun H locs ls cs ss hR hS hu hv hL => lv_land hX.exec hX.code hdg  (k H locs ls cs ss hR hS hu hv hL)
theorem z_lor (hX : zOk g X own cc nL ret d mc ms) {x y : Int64} (hdg : decode cc pc = .ok (.lor, 1)) (p : Nat) (hp : pc + 1 = p)  (k : ZW g X u v G p L (.long (x ||| y) :: st)) : ZW g X u v G pc L (.long y :: .long x :: st) := by
  subst hp
  exact fun H locs ls cs ss hR hS hu hv hL => lv_lor hX.exec hX.code hdg  (k H locs ls cs ss hR hS hu hv hL)
theorem z_lxor (hX : zOk g X own cc nL ret d mc ms) {x y : Int64} (hdg : decode cc pc = .ok (.lxor, 1)) (p : Nat) (hp : pc + 1 = p)  (k : ZW g X u v G p L (.long (x ^^^ y) :: st)) : ZW g X u v G pc L (.long y :: .long x :: st) := by
  subst hp
  exact fun H locs ls cs ss hR hS hu hv hL => lv_lxor hX.exec hX.code hdg  (k H locs ls cs ss hR hS hu hv hL)
theorem z_ldiv (hX : zOk g X own cc nL ret d mc ms) {x y : Int64} (hdg : decode cc pc = .ok (.ldiv, 1)) (p : Nat) (hp : pc + 1 = p) (hne : ¬ y = 0) (k : ZW g X u v G p L (.long (x / y) :: st)) : ZW g X u v G pc L (.long y :: .long x :: st) := by
  subst hp
  exact fun H locs ls cs ss hR hS hu hv hL => lv_ldiv hX.exec hX.code hdg hne (k H locs ls cs ss hR hS hu hv hL)
theorem z_lrem (hX : zOk g X own cc nL ret d mc ms) {x y : Int64} (hdg : decode cc pc = .ok (.lrem, 1)) (p : Nat) (hp : pc + 1 = p) (hne : ¬ y = 0) (k : ZW g X u v G p L (.long (x - x / y * y) :: st)) : ZW g X u v G pc L (.long y :: .long x :: st) := by
  subst hp
  exact fun H locs ls cs ss hR hS hu hv hL => lv_lrem hX.exec hX.code hdg hne (k H locs ls cs ss hR hS hu hv hL)
theorem z_lshl (hX : zOk g X own cc nL ret d mc ms) {x w : Int64} {y : Int32} (hdg : decode cc pc = .ok (.lshl, 1)) (p : Nat) (hp : pc + 1 = p) (hw : x <<< (y.toInt64 &&& 63) = w) (k : ZW g X u v G p L (.long w :: st)) : ZW g X u v G pc L (.int y :: .long x :: st) := by
  subst hp
  exact fun H locs ls cs ss hR hS hu hv hL => lv_lshl hX.exec hX.code hdg hw (k H locs ls cs ss hR hS hu hv hL)
theorem z_i2l (hX : zOk g X own cc nL ret d mc ms) {x : Int32} {w : Int64} (hdg : decode cc pc = .ok (.i2l, 1)) (p : Nat) (hp : pc + 1 = p) (hw : x.toInt64 = w) (k : ZW g X u v G p L (.long w :: st)) : ZW g X u v G pc L (.int x :: st) := by
  subst hp
  exact fun H locs ls cs ss hR hS hu hv hL => lv_i2l hX.exec hX.code hdg hw (k H locs ls cs ss hR hS hu hv hL)
theorem z_l2i (hX : zOk g X own cc nL ret d mc ms) {x : Int64} {w : Int32} (hdg : decode cc pc = .ok (.l2i, 1)) (p : Nat) (hp : pc + 1 = p) (hw : x.toInt32 = w) (k : ZW g X u v G p L (.int w :: st)) : ZW g X u v G pc L (.long x :: st) := by
  subst hp
  exact fun H locs ls cs ss hR hS hu hv hL => lv_l2i hX.exec hX.code hdg hw (k H locs ls cs ss hR hS hu hv hL)
theorem z_i2b (hX : zOk g X own cc nL ret d mc ms) {x w : Int32} (hdg : decode cc pc = .ok (.i2b, 1)) (p : Nat) (hp : pc + 1 = p) (hw : x.toInt8.toInt32 = w) (k : ZW g X u v G p L (.int w :: st)) : ZW g X u v G pc L (.int x :: st) := by
  subst hp
  exact fun H locs ls cs ss hR hS hu hv hL => lv_i2b hX.exec hX.code hdg hw (k H locs ls cs ss hR hS hu hv hL)
theorem z_i2c (hX : zOk g X own cc nL ret d mc ms) {x w : Int32} (hdg : decode cc pc = .ok (.i2c, 1)) (p : Nat) (hp : pc + 1 = p) (hw : (x.toUInt32 % 65536).toInt32 = w) (k : ZW g X u v G p L (.int w :: st)) : ZW g X u v G pc L (.int x :: st) := by
  subst hp
  exact fun H locs ls cs ss hR hS hu hv hL => lv_i2c hX.exec hX.code hdg hw (k H locs ls cs ss hR hS hu hv hL)
theorem z_lcmp (hX : zOk g X own cc nL ret d mc ms) {x y : Int64} (hdg : decode cc pc = .ok (.lcmp, 1)) (p : Nat) (hp : pc + 1 = p)  (k : ZW g X u v G p L (.int (lg_cmp x y) :: st)) : ZW g X u v G pc L (.long y :: .long x :: st) := by
  subst hp
  exact fun H locs ls cs ss hR hS hu hv hL => W.lcmp hX.exec hX.code hdg  (k H locs ls cs ss hR hS hu hv hL)
theorem z_fadd (hX : zOk g X own cc nL ret d mc ms) {x y : UInt32} (hdg : decode cc pc = .ok (.fadd, 1)) (p : Nat) (hp : pc + 1 = p) (hne : vf_n32 (FP.fadd x y)) (k : ZW g X u v G p L (.float (FP.fadd x y) :: st)) : ZW g X u v G pc L (.float y :: .float x :: st) := by
  subst hp
  exact fun H locs ls cs ss hR hS hu hv hL => lv_fadd hX.exec hX.code hdg hne (k H locs ls cs ss hR hS hu hv hL)
theorem z_fsub (hX : zOk g X own cc nL ret d mc ms) {x y : UInt32} (hdg : decode cc pc = .ok (.fsub, 1)) (p : Nat) (hp : pc + 1 = p) (hne : vf_n32 (FP.fsub x y)) (k : ZW g X u v G p L (.float (FP.fsub x y) :: st)) : ZW g X u v G pc L (.float y :: .float x :: st) := by
  subst hp
  exact fun H locs ls cs ss hR hS hu hv hL => lv_fsub hX.exec hX.code hdg hne (k H locs ls cs ss hR hS hu hv hL)
theorem z_fmul (hX : zOk g X own cc nL ret d mc ms) {x y : UInt32} (hdg : decode cc pc = .ok (.fmul, 1)) (p : Nat) (hp : pc + 1 = p) (hne : vf_n32 (FP.fmul x y)) (k : ZW g X u v G p L (.float (FP.fmul x y) :: st)) : ZW g X u v G pc L (.float y :: .float x :: st) := by
  subst hp
  exact fun H locs ls cs ss hR hS hu hv hL => lv_fmul hX.exec hX.code hdg hne (k H locs ls cs ss hR hS hu hv hL)
theorem z_fdiv (hX : zOk g X own cc nL ret d mc ms) {x y : UInt32} (hdg : decode cc pc = .ok (.fdiv, 1)) (p : Nat) (hp : pc + 1 = p) (hne : vf_n32 (FP.fdiv x y)) (k : ZW g X u v G p L (.float (FP.fdiv x y) :: st)) : ZW g X u v G pc L (.float y :: .float x :: st) := by
  subst hp
  exact fun H locs ls cs ss hR hS hu hv hL => lv_fdiv hX.exec hX.code hdg hne (k H locs ls cs ss hR hS hu hv hL)
theorem z_dadd (hX : zOk g X own cc nL ret d mc ms) {x y : UInt64} (hdg : decode cc pc = .ok (.dadd, 1)) (p : Nat) (hp : pc + 1 = p) (hne : vf_n64 (FP.dadd x y)) (k : ZW g X u v G p L (.double (FP.dadd x y) :: st)) : ZW g X u v G pc L (.double y :: .double x :: st) := by
  subst hp
  exact fun H locs ls cs ss hR hS hu hv hL => lv_dadd hX.exec hX.code hdg hne (k H locs ls cs ss hR hS hu hv hL)
theorem z_dsub (hX : zOk g X own cc nL ret d mc ms) {x y : UInt64} (hdg : decode cc pc = .ok (.dsub, 1)) (p : Nat) (hp : pc + 1 = p) (hne : vf_n64 (FP.dsub x y)) (k : ZW g X u v G p L (.double (FP.dsub x y) :: st)) : ZW g X u v G pc L (.double y :: .double x :: st) := by
  subst hp
  exact fun H locs ls cs ss hR hS hu hv hL => lv_dsub hX.exec hX.code hdg hne (k H locs ls cs ss hR hS hu hv hL)
theorem z_dmul (hX : zOk g X own cc nL ret d mc ms) {x y : UInt64} (hdg : decode cc pc = .ok (.dmul, 1)) (p : Nat) (hp : pc + 1 = p) (hne : vf_n64 (FP.dmul x y)) (k : ZW g X u v G p L (.double (FP.dmul x y) :: st)) : ZW g X u v G pc L (.double y :: .double x :: st) := by
  subst hp
  exact fun H locs ls cs ss hR hS hu hv hL => lv_dmul hX.exec hX.code hdg hne (k H locs ls cs ss hR hS hu hv hL)
theorem z_ddiv (hX : zOk g X own cc nL ret d mc ms) {x y : UInt64} (hdg : decode cc pc = .ok (.ddiv, 1)) (p : Nat) (hp : pc + 1 = p) (hne : vf_n64 (FP.ddiv x y)) (k : ZW g X u v G p L (.double (FP.ddiv x y) :: st)) : ZW g X u v G pc L (.double y :: .double x :: st) := by
  subst hp
  exact fun H locs ls cs ss hR hS hu hv hL => lv_ddiv hX.exec hX.code hdg hne (k H locs ls cs ss hR hS hu hv hL)
theorem z_i2f (hX : zOk g X own cc nL ret d mc ms) {x : Int32} (hdg : decode cc pc = .ok (.i2f, 1)) (p : Nat) (hp : pc + 1 = p)  (k : ZW g X u v G p L (.float (FP.i2f x) :: st)) : ZW g X u v G pc L (.int x :: st) := by
  subst hp
  exact fun H locs ls cs ss hR hS hu hv hL => lv_i2f hX.exec hX.code hdg  (k H locs ls cs ss hR hS hu hv hL)
theorem z_f2i (hX : zOk g X own cc nL ret d mc ms) {x : UInt32} (hdg : decode cc pc = .ok (.f2i, 1)) (p : Nat) (hp : pc + 1 = p)  (k : ZW g X u v G p L (.int (FP.f2i x) :: st)) : ZW g X u v G pc L (.float x :: st) := by
  subst hp
  exact fun H locs ls cs ss hR hS hu hv hL => lv_f2i hX.exec hX.code hdg  (k H locs ls cs ss hR hS hu hv hL)
theorem z_d2i (hX : zOk g X own cc nL ret d mc ms) {x : UInt64} (hdg : decode cc pc = .ok (.d2i, 1)) (p : Nat) (hp : pc + 1 = p)  (k : ZW g X u v G p L (.int (FP.d2i x) :: st)) : ZW g X u v G pc L (.double x :: st) := by
  subst hp
  exact fun H locs ls cs ss hR hS hu hv hL => lv_d2i hX.exec hX.code hdg  (k H locs ls cs ss hR hS hu hv hL)
theorem z_f2d (hX : zOk g X own cc nL ret d mc ms) {x : UInt32} (hdg : decode cc pc = .ok (.f2d, 1)) (p : Nat) (hp : pc + 1 = p) (hne : vf_n64 (FP.f2d x)) (k : ZW g X u v G p L (.double (FP.f2d x) :: st)) : ZW g X u v G pc L (.float x :: st) := by
  subst hp
  exact fun H locs ls cs ss hR hS hu hv hL => lv_f2d hX.exec hX.code hdg hne (k H locs ls cs ss hR hS hu hv hL)
theorem z_dup (hX : zOk g X own cc nL ret d mc ms) {a : Value} (hdg : decode cc pc = .ok (.dup, 1)) (p : Nat) (hp : pc + 1 = p) (h1 : a.category = 1) (k : ZW g X u v G p L (a :: a :: st)) : ZW g X u v G pc L (a :: st) := by
  subst hp
  exact fun H locs ls cs ss hR hS hu hv hL => lv_dup hX.exec hX.code hdg h1 (k H locs ls cs ss hR hS hu hv hL)
theorem z_pop (hX : zOk g X own cc nL ret d mc ms) {a : Value} (hdg : decode cc pc = .ok (.pop, 1)) (p : Nat) (hp : pc + 1 = p) (h1 : a.category = 1) (k : ZW g X u v G p L st) : ZW g X u v G pc L (a :: st) := by
  subst hp
  exact fun H locs ls cs ss hR hS hu hv hL => lv_pop hX.exec hX.code hdg h1 (k H locs ls cs ss hR hS hu hv hL)
theorem z_dup_x1 (hX : zOk g X own cc nL ret d mc ms) {a b : Value} (hdg : decode cc pc = .ok (.dup_x1, 1)) (p : Nat) (hp : pc + 1 = p) (h1 : a.category = 1) (h2 : b.category = 1) (k : ZW g X u v G p L (a :: b :: a :: st)) : ZW g X u v G pc L (a :: b :: st) := by
  subst hp
  exact fun H locs ls cs ss hR hS hu hv hL => lv_dup_x1 hX.exec hX.code hdg h1 h2 (k H locs ls cs ss hR hS hu hv hL)
theorem z_dup2_11 (hX : zOk g X own cc nL ret d mc ms) {a b : Value} (hdg : decode cc pc = .ok (.dup2, 1)) (p : Nat) (hp : pc + 1 = p) (h1 : a.category = 1) (h2 : b.category = 1) (k : ZW g X u v G p L (a :: b :: a :: b :: st)) : ZW g X u v G pc L (a :: b :: st) := by
  subst hp
  exact fun H locs ls cs ss hR hS hu hv hL => lv_dup2_11 hX.exec hX.code hdg h1 h2 (k H locs ls cs ss hR hS hu hv hL)
theorem z_ldc (hX : zOk g X own cc nL ret d mc ms) {idx : Nat} {w : Int32} (hq : Jvm.Cond.constant own idx w ∈ lw_all) (hdg : decode cc pc = .ok (.ldc idx, 2)) (p : Nat) (hp : pc + 2 = p) (k : ZW g X u v G p L (.int w :: st)) : ZW g X u v G pc L st := by
  subst hp
  exact fun H locs ls cs ss hR hS hu hv hL => lv_ldc hX.exec hX.code hX.ow (hX.hts _ hq) hdg (k H locs ls cs ss hR hS hu hv hL)
theorem z_ldcw (hX : zOk g X own cc nL ret d mc ms) {idx : Nat} {w : Int32} (hq : Jvm.Cond.constant own idx w ∈ lw_all) (hdg : decode cc pc = .ok (.ldc_w idx, 3)) (p : Nat) (hp : pc + 3 = p) (k : ZW g X u v G p L (.int w :: st)) : ZW g X u v G pc L st := by
  subst hp
  exact fun H locs ls cs ss hR hS hu hv hL => lv_ldcw hX.exec hX.code hX.ow (hX.hts _ hq) hdg (k H locs ls cs ss hR hS hu hv hL)
theorem z_ldcf (hX : zOk g X own cc nL ret d mc ms) {idx : Nat} {w : UInt32} (hq : Jvm.Cond.constantFloat own idx w ∈ lw_all) (hdg : decode cc pc = .ok (.ldc idx, 2)) (p : Nat) (hp : pc + 2 = p) (k : ZW g X u v G p L (.float w :: st)) : ZW g X u v G pc L st := by
  subst hp
  exact fun H locs ls cs ss hR hS hu hv hL => lv_ldcf hX.exec hX.code hX.ow (hX.hts _ hq) hdg (k H locs ls cs ss hR hS hu hv hL)
theorem z_ldc2 (hX : zOk g X own cc nL ret d mc ms) {idx : Nat} {w : Int64} (hq : Jvm.Cond.constantLong own idx w ∈ lw_all) (hdg : decode cc pc = .ok (.ldc2_w idx, 3)) (p : Nat) (hp : pc + 3 = p) (k : ZW g X u v G p L (.long w :: st)) : ZW g X u v G pc L st := by
  subst hp
  exact fun H locs ls cs ss hR hS hu hv hL => lv_ldc2 hX.exec hX.code hX.ow (hX.hts _ hq) hdg (k H locs ls cs ss hR hS hu hv hL)
theorem z_ldc2d (hX : zOk g X own cc nL ret d mc ms) {idx : Nat} {w : UInt64} (hq : Jvm.Cond.constantDouble own idx w ∈ lw_all) (hdg : decode cc pc = .ok (.ldc2_w idx, 3)) (p : Nat) (hp : pc + 3 = p) (k : ZW g X u v G p L (.double w :: st)) : ZW g X u v G pc L st := by
  subst hp
  exact fun H locs ls cs ss hR hS hu hv hL => lv_ldc2d hX.exec hX.code hX.ow (hX.hts _ hq) hdg (k H locs ls cs ss hR hS hu hv hL)
theorem z_if_eq (hX : zOk g X own cc nL ret d mc ms) {x : Int32} {off : Int} {tgt : Nat} (hdg : decode cc pc = .ok (.ifCond .eq off, 3)) (p : Nat) (hp : pc + 3 = p) (ht : (pc : Int) + off = (tgt : Int)) (kt : x = 0 → ZW g X u v G tgt L st) (kf : ¬ x = 0 → ZW g X u v G p L st) : ZW g X u v G pc L (.int x :: st) := by
  subst hp
  exact fun H locs ls cs ss hR hS hu hv hL => lv_if_eq hX.exec hX.code hdg ht (fun h => kt h H locs ls cs ss hR hS hu hv hL) (fun h => kf h H locs ls cs ss hR hS hu hv hL)
theorem z_icmp_eq (hX : zOk g X own cc nL ret d mc ms) {x y : Int32} {off : Int} {tgt : Nat} (hdg : decode cc pc = .ok (.if_icmp .eq off, 3)) (p : Nat) (hp : pc + 3 = p) (ht : (pc : Int) + off = (tgt : Int)) (kt : x = y → ZW g X u v G tgt L st) (kf : ¬ x = y → ZW g X u v G p L st) : ZW g X u v G pc L (.int y :: .int x :: st) := by
  subst hp
  exact fun H locs ls cs ss hR hS hu hv hL => lv_icmp_eq hX.exec hX.code hdg ht (fun h => kt h H locs ls cs ss hR hS hu hv hL) (fun h => kf h H locs ls cs ss hR hS hu hv hL)
theorem z_if_ne (hX : zOk g X own cc nL ret d mc ms) {x : Int32} {off : Int} {tgt : Nat} (hdg : decode cc pc = .ok (.ifCond .ne off, 3)) (p : Nat) (hp : pc + 3 = p) (ht : (pc : Int) + off = (tgt : Int)) (kt : ¬ x = 0 → ZW g X u v G tgt L st) (kf : x = 0 → ZW g X u v G p L st) : ZW g X u v G pc L (.int x :: st) := by
  subst hp
  exact fun H locs ls cs ss hR hS hu hv hL => lv_if_ne hX.exec hX.code hdg ht (fun h => kt h H locs ls cs ss hR hS hu hv hL) (fun h => kf h H locs ls cs ss hR hS hu hv hL)
theorem z_icmp_ne (hX : zOk g X own cc nL ret d mc ms) {x y : Int32} {off : Int} {tgt : Nat} (hdg : decode cc pc = .ok (.if_icmp .ne off, 3)) (p : Nat) (hp : pc + 3 = p) (ht : (pc : Int) + off = (tgt : Int)) (kt : ¬ x = y → ZW g X u v G tgt L st) (kf : x = y → ZW g X u v G p L st) : ZW g X u v G pc L (.int y :: .int x :: st) := by
  subst hp
  exact fun H locs ls cs ss hR hS hu hv hL => lv_icmp_ne hX.exec hX.code hdg ht (fun h => kt h H locs ls cs ss hR hS hu hv hL) (fun h => kf h H locs ls cs ss hR hS hu hv hL)
theorem z_if_lt (hX : zOk g X own cc nL ret d mc ms) {x : Int32} {off : Int} {tgt : Nat} (hdg : decode cc pc = .ok (.ifCond .lt off, 3)) (p : Nat) (hp : pc + 3 = p) (ht : (pc : Int) + off = (tgt : Int)) (kt : x < 0 → ZW g X u v G tgt L st) (kf : ¬ x < 0 → ZW g X u v G p L st) : ZW g X u v G pc L (.int x :: st) := by
  subst hp
  exact fun H locs ls cs ss hR hS hu hv hL => lv_if_lt hX.exec hX.code hdg ht (fun h => kt h H locs ls cs ss hR hS hu hv hL) (fun h => kf h H locs ls cs ss hR hS hu hv hL)
theorem z_icmp_lt (hX : zOk g X own cc nL ret d mc ms) {x y : Int32} {off : Int} {tgt : Nat} (hdg : decode cc pc = .ok (.if_icmp .lt off, 3)) (p : Nat) (hp : pc + 3 = p) (ht : (pc : Int) + off = (tgt : Int)) (kt : x < y → ZW g X u v G tgt L st) (kf : ¬ x < y → ZW g X u v G p L st) : ZW g X u v G pc L (.int y :: .int x :: st) := by
  subst hp
  exact fun H locs ls cs ss hR hS hu hv hL => lv_icmp_lt hX.exec hX.code hdg ht (fun h => kt h H locs ls cs ss hR hS hu hv hL) (fun h => kf h H locs ls cs ss hR hS hu hv hL)
theorem z_if_ge (hX : zOk g X own cc nL ret d mc ms) {x : Int32} {off : Int} {tgt : Nat} (hdg : decode cc pc = .ok (.ifCond .ge off, 3)) (p : Nat) (hp : pc + 3 = p) (ht : (pc : Int) + off = (tgt : Int)) (kt : 0 ≤ x → ZW g X u v G tgt L st) (kf : ¬ 0 ≤ x → ZW g X u v G p L st) : ZW g X u v G pc L (.int x :: st) := by
  subst hp
  exact fun H locs ls cs ss hR hS hu hv hL => lv_if_ge hX.exec hX.code hdg ht (fun h => kt h H locs ls cs ss hR hS hu hv hL) (fun h => kf h H locs ls cs ss hR hS hu hv hL)
theorem z_icmp_ge (hX : zOk g X own cc nL ret d mc ms) {x y : Int32} {off : Int} {tgt : Nat} (hdg : decode cc pc = .ok (.if_icmp .ge off, 3)) (p : Nat) (hp : pc + 3 = p) (ht : (pc : Int) + off = (tgt : Int)) (kt : y ≤ x → ZW g X u v G tgt L st) (kf : ¬ y ≤ x → ZW g X u v G p L st) : ZW g X u v G pc L (.int y :: .int x :: st) := by
  subst hp
  exact fun H locs ls cs ss hR hS hu hv hL => lv_icmp_ge hX.exec hX.code hdg ht (fun h => kt h H locs ls cs ss hR hS hu hv hL) (fun h => kf h H locs ls cs ss hR hS hu hv hL)
theorem z_if_gt (hX : zOk g X own cc nL ret d mc ms) {x : Int32} {off : Int} {tgt : Nat} (hdg : decode cc pc = .ok (.ifCond .gt off, 3)) (p : Nat) (hp : pc + 3 = p) (ht : (pc : Int) + off = (tgt : Int)) (kt : 0 < x → ZW g X u v G tgt L st) (kf : ¬ 0 < x → ZW g X u v G p L st) : ZW g X u v G pc L (.int x :: st) := by
  subst hp
  exact fun H locs ls cs ss hR hS hu hv hL => lv_if_gt hX.exec hX.code hdg ht (fun h => kt h H locs ls cs ss hR hS hu hv hL) (fun h => kf h H locs ls cs ss hR hS hu hv hL)
theorem z_icmp_gt (hX : zOk g X own cc nL ret d mc ms) {x y : Int32} {off : Int} {tgt : Nat} (hdg : decode cc pc = .ok (.if_icmp .gt off, 3)) (p : Nat) (hp : pc + 3 = p) (ht : (pc : Int) + off = (tgt : Int)) (kt : y < x → ZW g X u v G tgt L st) (kf : ¬ y < x → ZW g X u v G p L st) : ZW g X u v G pc L (.int y :: .int x :: st) := by
  subst hp
  exact fun H locs ls cs ss hR hS hu hv hL => lv_icmp_gt hX.exec hX.code hdg ht (fun h => kt h H locs ls cs ss hR hS hu hv hL) (fun h => kf h H locs ls cs ss hR hS hu hv hL)
theorem z_if_le (hX : zOk g X own cc nL ret d mc ms) {x : Int32} {off : Int} {tgt : Nat} (hdg : decode cc pc = .ok (.ifCond .le off, 3)) (p : Nat) (hp : pc + 3 = p) (ht : (pc : Int) + off = (tgt : Int)) (kt : x ≤ 0 → ZW g X u v G tgt L st) (kf : ¬ x ≤ 0 → ZW g X u v G p L st) : ZW g X u v G pc L (.int x :: st) := by
  subst hp
  exact fun H locs ls cs ss hR hS hu hv hL => lv_if_le hX.exec hX.code hdg ht (fun h => kt h H locs ls cs ss hR hS hu hv hL) (fun h => kf h H locs ls cs ss hR hS hu hv hL)
theorem z_icmp_le (hX : zOk g X own cc nL ret d mc ms) {x y : Int32} {off : Int} {tgt : Nat} (hdg : decode cc pc = .ok (.if_icmp .le off, 3)) (p : Nat) (hp : pc + 3 = p) (ht : (pc : Int) + off = (tgt : Int)) (kt : x ≤ y → ZW g X u v G tgt L st) (kf : ¬ x ≤ y → ZW g X u v G p L st) : ZW g X u v G pc L (.int y :: .int x :: st) := by
  subst hp
  exact fun H locs ls cs ss hR hS hu hv hL => lv_icmp_le hX.exec hX.code hdg ht (fun h => kt h H locs ls cs ss hR hS hu hv hL) (fun h => kf h H locs ls cs ss hR hS hu hv hL)
theorem z_goto (hX : zOk g X own cc nL ret d mc ms) {off : Int} {tgt : Nat} (hdg : decode cc pc = .ok (.goto off, 3)) (ht : (pc : Int) + off = (tgt : Int)) (k : ZW g X u v G tgt L st) : ZW g X u v G pc L st :=
  fun H locs ls cs ss hR hS hu hv hL => lv_goto hX.exec hX.code hdg ht (k H locs ls cs ss hR hS hu hv hL)
theorem z_ifnull (hX : zOk g X own cc nL ret d mc ms) {x : Nat} {off : Int} (hdg : decode cc pc = .ok (.ifnull off, 3)) (p : Nat) (hp : pc + 3 = p) (k : ZW g X u v G p L st) : ZW g X u v G pc L (.ref x :: st) := by
  subst hp
  exact fun H locs ls cs ss hR hS hu hv hL => lv_ifnull hX.exec hX.code hdg (k H locs ls cs ss hR hS hu hv hL)
theorem z_ifnullN (hX : zOk g X own cc nL ret d mc ms) {off : Int} {tgt : Nat} (hdg : decode cc pc = .ok (.ifnull off, 3)) (ht : (pc : Int) + off = (tgt : Int)) (k : ZW g X u v G tgt L st) : ZW g X u v G pc L (.null :: st) :=
  fun H locs ls cs ss hR hS hu hv hL => lv_ifnullN hX.exec hX.code hdg ht (k H locs ls cs ss hR hS hu hv hL)
theorem z_ifnonnull (hX : zOk g X own cc nL ret d mc ms) {x : Nat} {off : Int} {tgt : Nat} (hdg : decode cc pc = .ok (.ifnonnull off, 3)) (ht : (pc : Int) + off = (tgt : Int)) (k : ZW g X u v G tgt L st) : ZW g X u v G pc L (.ref x :: st) :=
  fun H locs ls cs ss hR hS hu hv hL => lv_ifnonnull hX.exec hX.code hdg ht (k H locs ls cs ss hR hS hu hv hL)
theorem z_ifnonnullN (hX : zOk g X own cc nL ret d mc ms) {off : Int} (hdg : decode cc pc = .ok (.ifnonnull off, 3)) (p : Nat) (hp : pc + 3 = p) (k : ZW g X u v G p L st) : ZW g X u v G pc L (.null :: st) := by
  subst hp
  exact fun H locs ls cs ss hR hS hu hv hL => lv_ifnonnullN hX.exec hX.code hdg (k H locs ls cs ss hR hS hu hv hL)
theorem z_tableOut (hX : zOk g X own cc nL ret d mc ms) {dflt lo hi : Int} {offs : Array Int} {len : Nat} {x : Int32} {tgt : Nat} (hdg : decode cc pc = .ok (.tableswitch dflt lo hi offs, len)) (h : x.toInt < lo ∨ hi < x.toInt) (ht : (pc : Int) + dflt = (tgt : Int)) (k : ZW g X u v G tgt L st) : ZW g X u v G pc L (.int x :: st) :=
  fun H locs ls cs ss hR hS hu hv hL => lv_tableOut hX.exec hX.code hdg h ht (k H locs ls cs ss hR hS hu hv hL)
theorem z_tableIn (hX : zOk g X own cc nL ret d mc ms) {dflt lo hi : Int} {offs : Array Int} {len : Nat} {x : Int32} {off : Int} {tgt : Nat} (hdg : decode cc pc = .ok (.tableswitch dflt lo hi offs, len)) (h1 : ¬ x.toInt < lo) (h2 : ¬ hi < x.toInt) (ho : offs[(x.toInt - lo).toNat]? = some off) (ht : (pc : Int) + off = (tgt : Int)) (k : ZW g X u v G tgt L st) : ZW g X u v G pc L (.int x :: st) :=
  fun H locs ls cs ss hR hS hu hv hL => lv_tableIn hX.exec hX.code hdg h1 h2 ho ht (k H locs ls cs ss hR hS hu hv hL)
theorem z_iret (hX : zOk g X own cc nL ret d mc ms) {x : Int32} {P : Option Value → zHG → Prop} (hQ : xQ X = MQ (xB X) (zQ g P) (xA X) (xS X) mc ms (zA g)) (hu' : u ≤ mc) (hv' : v ≤ ms) (hret : ret = some .int)  (hdg : decode cc pc = .ok (.ireturn, 1)) (hP : P (some (.int x)) G) : ZW g X u v G pc L [.int x] := by
  intro H locs ls cs ss hR hS hu hv hL
  rw [hQ]
  exact W.widen (Nat.le_trans hu hu') (Nat.le_trans hv hv') (W.iret hX.exec hX.code (by rw [hX.rt, hret])  (fun t ht hW => ⟨⟨_, G, rfl, hP, by rw [ht]; exact hR⟩, hS.F ht⟩) hS.2.2 hdg hX.locks)
theorem z_zret (hX : zOk g X own cc nL ret d mc ms) {x : Int32} {P : Option Value → zHG → Prop} (hQ : xQ X = MQ (xB X) (zQ g P) (xA X) (xS X) mc ms (zA g)) (hu' : u ≤ mc) (hv' : v ≤ ms) {rt : FieldType} (hret : ret = some rt) (hn : narrow rt (.int x) = .int x) (hdg : decode cc pc = .ok (.ireturn, 1)) (hP : P (some (.int x)) G) : ZW g X u v G pc L [.int x] := by
  intro H locs ls cs ss hR hS hu hv hL
  rw [hQ]
  exact W.widen (Nat.le_trans hu hu') (Nat.le_trans hv hv') (W.zret hX.exec hX.code (by rw [hX.rt, hret]) hn (fun t ht hW => ⟨⟨_, G, rfl, hP, by rw [ht]; exact hR⟩, hS.F ht⟩) hS.2.2 hdg hX.locks)
theorem z_lret (hX : zOk g X own cc nL ret d mc ms) {x : Int64} {P : Option Value → zHG → Prop} (hQ : xQ X = MQ (xB X) (zQ g P) (xA X) (xS X) mc ms (zA g)) (hu' : u ≤ mc) (hv' : v ≤ ms) (hret : ret = some .long)  (hdg : decode cc pc = .ok (.lreturn, 1)) (hP : P (some (.long x)) G) : ZW g X u v G pc L [.long x] := by
  intro H locs ls cs ss hR hS hu hv hL
  rw [hQ]
  exact W.widen (Nat.le_trans hu hu') (Nat.le_trans hv hv') (W.lret hX.exec hX.code (by rw [hX.rt, hret])  (fun t ht hW => ⟨⟨_, G, rfl, hP, by rw [ht]; exact hR⟩, hS.F ht⟩) hS.2.2 hdg hX.locks)
theorem z_fret (hX : zOk g X own cc nL ret d mc ms) {x : UInt32} {P : Option Value → zHG → Prop} (hQ : xQ X = MQ (xB X) (zQ g P) (xA X) (xS X) mc ms (zA g)) (hu' : u ≤ mc) (hv' : v ≤ ms) (hret : ret = some .float)  (hdg : decode cc pc = .ok (.freturn, 1)) (hP : P (some (.float x)) G) : ZW g X u v G pc L [.float x] := by
  intro H locs ls cs ss hR hS hu hv hL
  rw [hQ]
  exact W.widen (Nat.le_trans hu hu') (Nat.le_trans hv hv') (W.fret hX.exec hX.code (by rw [hX.rt, hret])  (fun t ht hW => ⟨⟨_, G, rfl, hP, by rw [ht]; exact hR⟩, hS.F ht⟩) hS.2.2 hdg hX.locks)
theorem z_dret (hX : zOk g X own cc nL ret d mc ms) {x : UInt64} {P : Option Value → zHG → Prop} (hQ : xQ X = MQ (xB X) (zQ g P) (xA X) (xS X) mc ms (zA g)) (hu' : u ≤ mc) (hv' : v ≤ ms) (hret : ret = some .double)  (hdg : decode cc pc = .ok (.dreturn, 1)) (hP : P (some (.double x)) G) : ZW g X u v G pc L [.double x] := by
  intro H locs ls cs ss hR hS hu hv hL
  rw [hQ]
  exact W.widen (Nat.le_trans hu hu') (Nat.le_trans hv hv') (W.dret hX.exec hX.code (by rw [hX.rt, hret])  (fun t ht hW => ⟨⟨_, G, rfl, hP, by rw [ht]; exact hR⟩, hS.F ht⟩) hS.2.2 hdg hX.locks)
theorem z_vret (hX : zOk g X own cc nL ret d mc ms)  {P : Option Value → zHG → Prop} (hQ : xQ X = MQ (xB X) (zQ g P) (xA X) (xS X) mc ms (zA g)) (hu' : u ≤ mc) (hv' : v ≤ ms) (hret : ret = none)  (hdg : decode cc pc = .ok (.return_, 1)) (hP : P none G) : ZW g X u v G pc L [] := by
  intro H locs ls cs ss hR hS hu hv hL
  rw [hQ]
  exact W.widen (Nat.le_trans hu hu') (Nat.le_trans hv hv') (W.vret hX.exec hX.code (by rw [hX.rt, hret])  (fun t ht hW => ⟨⟨_, G, rfl, hP, by rw [ht]; exact hR⟩, hS.F ht⟩) hS.2.2 hdg hX.locks)
theorem z_aret (hX : zOk g X own cc nL ret d mc ms) {x : Nat} {P : Option Value → zHG → Prop} (hQ : xQ X = MQ (xB X) (zQ g P) (xA X) (xS X) mc ms (zA g)) (hu' : u ≤ mc) (hv' : v ≤ ms) {rt : FieldType} (hret : ret = some rt) (hrt : (∃ n, rt = .object n) ∨ ∃ t, rt = .array t) (hdg : decode cc pc = .ok (.areturn, 1)) (hP : P (some (.ref x)) G) : ZW g X u v G pc L [.ref x] := by
  intro H locs ls cs ss hR hS hu hv hL
  rw [hQ]
  exact W.widen (Nat.le_trans hu hu') (Nat.le_trans hv hv') (W.aret hX.exec hX.code (by rw [hX.rt, hret]) hrt (Or.inr ⟨x, rfl⟩) (fun t ht hW => ⟨⟨_, G, rfl, hP, by rw [ht]; exact hR⟩, hS.F ht⟩) hS.2.2 hdg hX.locks)
theorem z_aretN (hX : zOk g X own cc nL ret d mc ms) {P : Option Value → zHG → Prop} (hQ : xQ X = MQ (xB X) (zQ g P) (xA X) (xS X) mc ms (zA g)) (hu' : u ≤ mc) (hv' : v ≤ ms) {rt : FieldType} (hret : ret = some rt) (hrt : (∃ n, rt = .object n) ∨ ∃ t, rt = .array t) (hdg : decode cc pc = .ok (.areturn, 1)) (hP : P (some .null) G) : ZW g X u v G pc L [.null] := by
  intro H locs ls cs ss hR hS hu hv hL
  rw [hQ]
  exact W.widen (Nat.le_trans hu hu') (Nat.le_trans hv hv') (W.aret hX.exec hX.code (by rw [hX.rt, hret]) hrt (Or.inl rfl) (fun t ht hW => ⟨⟨_, G, rfl, hP, by rw [ht]; exact hR⟩, hS.F ht⟩) hS.2.2 hdg hX.locks)
end ZRows
/-! CORE 3: rows that read and write the abstract heap -/
def zup (G : zHG) (a : Nat) (w : (Nat × Nat) × va_E) : zHG := fun b => if b = a then some w else G b
theorem zup_self (G : zHG) (a : Nat) (w : (Nat × Nat) × va_E) : zup G a w a = some w := if_pos rfl
theorem zup_ne (G : zHG) {a b : Nat} (w : (Nat × Nat) × va_E) (h : b ≠ a) : zup G a w b = G b := if_neg h
abbrev zI (c : ClassId) (n : Nat) (f : Nat → Int32) : va_E := .inl (c, n, .inl f)
abbrev zR (c : ClassId) (n : Nat) (f : Nat → Option Nat) : va_E := .inl (c, n, .inr (.inr (.inr (.inr f))))
abbrev zO (ci : Nat) (fs : List Value) : va_E := .inr (ci, fs)
/-- a field's reference out of a class, by the class's place in zcl and the field's place -/
def zFg (own : String) (idx ci k : Nat) : Prop := ∃ (C : String) (T : u_T) (N : Nat) (ref : String), zcl[ci]? = some (C, T, N) ∧ (∀ w ∈ u_ws C T N, w ∈ lw_all) ∧ k < N ∧ Jvm.Cond.fieldLink own idx ref (T k).2.1 (T k).2.2.1 ∈ lw_all ∧ (T k).1 = ref
def zFgN (own : String) (idx ci k : Nat) : Prop := ∃ (C : String) (T : u_T) (N : Nat) (ref host : String), zcl[ci]? = some (C, T, N) ∧ (∀ w ∈ u_ws C T N, w ∈ lw_all) ∧ k < N ∧ Jvm.Cond.fieldLinkNest own idx ref (T k).2.1 (T k).2.2.1 host ∈ lw_tbl ∧ (T k).1 = ref
def zFt (ci k : Nat) (ty : FieldType) (fin : Bool) : Prop := ∃ (C : String) (T : u_T) (N : Nat) (ty0 : Nat → FieldType), zcl[ci]? = some (C, T, N) ∧ (∀ k, k < N → parseFieldDescriptor (T k).2.2.1 = some (ty0 k)) ∧ (∀ a, a < N → ∀ b, b < N → a ≠ b → (T a).2.1 ≠ (T b).2.1) ∧ (T k).2.2.2 = fin ∧ ty0 k = ty
def zNw (own : String) (idx ci N : Nat) (fs : List Value) : Prop := ∃ (C : String) (T : u_T) (ty : Nat → FieldType), zcl[ci]? = some (C, T, N) ∧ (∀ w ∈ u_ws C T N, w ∈ lw_all) ∧ (∀ k, k < N → parseFieldDescriptor (T k).2.2.1 = some (ty k)) ∧ Jvm.Cond.classLink own idx C ∈ lw_all ∧ Jvm.Cond.instantiable C N ∈ lw_all ∧ Jvm.Cond.initialized C ∈ lw_all ∧ ∀ j, j < N → defaultValue (ty j) = vp_V fs j
section ZHeap
variable {g : Zg} {X : Zx} {own : String} {cc : ByteArray} {nL : Nat} {ret : Option FieldType} {d mc ms : Nat} {u v pc : Nat} {G : zHG} {L : List (Nat × Value)} {st : List Value}
theorem zRel.lt {H : Heap} (h : zRel g G H) {a : Nat} {w : (Nat × Nat) × va_E} (ha : G a = some w) : a < H.size ∧ zA g a := by
  obtain ⟨ws, h1, h2, h3⟩ := h
  obtain ⟨i, hi⟩ := List.getElem?_of_mem (h3 a w ha)
  exact ⟨(h1 i _ hi).lt, h2.2 i _ hi⟩
theorem zRel_set {ws : va_W} {q0 a : Nat} {e0 e : va_E} {lb : Nat × Nat} {H1 : Heap} (hD0 : va_D (zA g) ws) (h3 : ∀ (a : Nat) (w : (Nat × Nat) × va_E), G a = some w → (a, w.2) ∈ ws) (he : ws[q0]? = some (a, e0)) (hP : va_P (zD g) zcl (ws.set q0 (a, e)) H1) (hD : va_D (zA g) (ws.set q0 (a, e))) : zRel g (zup G a (lb, e)) H1 := by
  refine ⟨_, hP, hD, fun b w hw => ?_⟩
  have hl := (List.getElem?_eq_some_iff.mp he).1
  by_cases hb : b = a
  · subst hb
    rw [zup_self] at hw
    cases hw
    exact List.mem_of_getElem? (List.getElem?_set_self hl)
  · rw [zup_ne _ _ hb] at hw
    obtain ⟨i, hi⟩ := List.getElem?_of_mem (h3 b w hw)
    have hne : i ≠ q0 := fun e => by subst e; rw [he] at hi; exact hb (Prod.mk.inj (Option.some.inj hi)).1.symm
    exact List.mem_of_getElem? (i := i) (by rw [List.getElem?_set_ne (Ne.symm hne)]; exact hi)
theorem zRel_push {ws : va_W} {a : Nat} {e : va_E} {lb : Nat × Nat} {H1 : Heap} (h3 : ∀ (a : Nat) (w : (Nat × Nat) × va_E), G a = some w → (a, w.2) ∈ ws) (hP : va_P (zD g) zcl (ws ++ [(a, e)]) H1) (hD : va_D (zA g) (ws ++ [(a, e)])) : zRel g (zup G a (lb, e)) H1 ∧ G a = none ∧ zA g a := by
  have hlast : (ws ++ [(a, e)])[ws.length]? = some (a, e) := by simp
  have hno : G a = none := by
    cases hw : G a with
    | none => rfl
    | some w =>
      obtain ⟨i, hi⟩ := List.getElem?_of_mem (h3 a w hw)
      have hl := (List.getElem?_eq_some_iff.mp hi).1
      have h1 := hD.1 i ws.length (a, w.2) (a, e) (by rw [List.getElem?_append_left hl]; exact hi) hlast rfl
      omega
  refine ⟨⟨_, hP, hD, fun b w hw => ?_⟩, hno, hD.2 _ _ hlast⟩
  by_cases hb : b = a
  · subst hb
    rw [zup_self] at hw
    cases hw
    exact List.mem_of_getElem? hlast
  · rw [zup_ne _ _ hb] at hw
    exact List.mem_append_left _ (h3 b w hw)
theorem z_getf (hX : zOk g X own cc nL ret d mc ms) {idx ci k a : Nat} {lb : Nat × Nat} {fs : List Value} {x : Value} (hF : zFg own idx ci k) (hg : G a = some (lb, zO ci fs)) (hdg : decode cc pc = .ok (.getfield idx, 3)) (p : Nat) (hp : pc + 3 = p) (hv : fs[k]? = some x) (kk : ZW g X u v G p L (x :: st)) : ZW g X u v G pc L (.ref a :: st) := by
  subst hp
  intro H locs ls cs ss hR hS hu hv' hL
  obtain ⟨C, T, N, ref, hc, hin, hk, hlink, hr⟩ := hF
  obtain ⟨ws, h1, h2, h3⟩ := hR
  obtain ⟨q0, hq⟩ := List.getElem?_of_mem (h3 a _ hg)
  exact va_get hX.exec hX.code hX.hts hin hX.ow hX.K h1 q0 hq hc k hk (hX.hts _ hlink) (fun x h => by rw [← hr]; exact h) hv hdg (kk H locs ls cs ss ⟨ws, h1, h2, h3⟩ hS hu hv' hL)
theorem z_getfN (hX : zOk g X own cc nL ret d mc ms) {idx ci k a : Nat} {lb : Nat × Nat} {fs : List Value} {x : Value} (hF : zFgN own idx ci k) (hg : G a = some (lb, zO ci fs)) (hdg : decode cc pc = .ok (.getfield idx, 3)) (p : Nat) (hp : pc + 3 = p) (hv : fs[k]? = some x) (kk : ZW g X u v G p L (x :: st)) : ZW g X u v G pc L (.ref a :: st) := by
  subst hp
  intro H locs ls cs ss hR hS hu hv' hL
  obtain ⟨C, T, N, ref, host, hc, hin, hk, hlink, hr⟩ := hF
  obtain ⟨ws, h1, h2, h3⟩ := hR
  obtain ⟨q0, hq⟩ := List.getElem?_of_mem (h3 a _ hg)
  exact va_getN hX.exec hX.code hX.hts hin hX.ow hX.K h1 q0 hq hc k hk (va_Nw.use rfl (va_Nw.warmF hX.st.1 (va_Nw.of rfl (hX.G.2.1 _ hlink)))) (fun x h => by rw [← hr]; exact h) hv hdg (kk H locs ls cs ss ⟨ws, h1, h2, h3⟩ hS hu hv' hL)
theorem z_putf (hX : zOk g X own cc nL ret d mc ms) {idx ci k a : Nat} {lb : Nat × Nat} {fs fs' : List Value} {x : Value} {ty : FieldType} (hF : zFg own idx ci k) (hT : zFt ci k ty false) (hg : G a = some (lb, zO ci fs)) (hdg : decode cc pc = .ok (.putfield idx, 3)) (p : Nat) (hp : pc + 3 = p) (hn : narrow ty x = x) (hfit : fits ty x = true) (hl : k < fs.length) (hs : fs.set k x = fs') (kk : ZW g X u v (zup G a (lb, zO ci fs')) p L st) : ZW g X u v G pc L (x :: .ref a :: st) := by
  subst hp; subst hs
  intro H locs ls cs ss hR hS hu hv' hL
  obtain ⟨C, T, N, ref, hc, hin, hk, hlink, hr⟩ := hF
  obtain ⟨C2, T2, N2, ty0, hc2, hty, hnm, hfin, hte⟩ := hT
  cases (Option.some.inj (hc.symm.trans hc2))
  obtain ⟨ws, h1, h2, h3⟩ := hR
  obtain ⟨q0, hq⟩ := List.getElem?_of_mem (h3 a _ hg)
  exact va_put hX.exec hX.code hX.hts hin ty0 hty hnm hX.ow hX.K h1 h2 hS q0 hq hc k hk (hX.hts _ hlink) (fun x h => by rw [← hr]; exact h) hfin (by rw [hty k hk, hte]) hn hfit hl hdg (fun H1 locs1 hP1 hD1 hS1 => kk H1 locs1 ls cs ss (zRel_set h2 h3 hq hP1 hD1) hS1 hu hv' hL)
theorem z_putfN (hX : zOk g X own cc nL ret d mc ms) {idx ci k a : Nat} {lb : Nat × Nat} {fs fs' : List Value} {x : Value} {ty : FieldType} (hF : zFgN own idx ci k) (hT : zFt ci k ty false) (hg : G a = some (lb, zO ci fs)) (hdg : decode cc pc = .ok (.putfield idx, 3)) (p : Nat) (hp : pc + 3 = p) (hn : narrow ty x = x) (hfit : fits ty x = true) (hl : k < fs.length) (hs : fs.set k x = fs') (kk : ZW g X u v (zup G a (lb, zO ci fs')) p L st) : ZW g X u v G pc L (x :: .ref a :: st) := by
  subst hp; subst hs
  intro H locs ls cs ss hR hS hu hv' hL
  obtain ⟨C, T, N, ref, host, hc, hin, hk, hlink, hr⟩ := hF
  obtain ⟨C2, T2, N2, ty0, hc2, hty, hnm, hfin, hte⟩ := hT
  cases (Option.some.inj (hc.symm.trans hc2))
  obtain ⟨ws, h1, h2, h3⟩ := hR
  obtain ⟨q0, hq⟩ := List.getElem?_of_mem (h3 a _ hg)
  exact va_putN hX.exec hX.code hX.hts hin ty0 hty hnm hX.ow hX.K h1 h2 hS q0 hq hc k hk (va_Nw.use rfl (va_Nw.warmF hX.st.1 (va_Nw.of rfl (hX.G.2.1 _ hlink)))) (fun x h => by rw [← hr]; exact h) hfin (by rw [hty k hk, hte]) hn hfit hl hdg (fun H1 locs1 hP1 hD1 hS1 => kk H1 locs1 ls cs ss (zRel_set h2 h3 hq hP1 hD1) hS1 hu hv' hL)
theorem z_putfF (hX : zOk g X own cc nL ret d mc ms) {idx ci k a : Nat} {lb : Nat × Nat} {fs fs' : List Value} {x : Value} {ty : FieldType} (hname : (xMe X).name = "<init>") (hF : zFg own idx ci k) (hdecl : ∀ (C : String) (T : u_T) (N : Nat), zcl[ci]? = some (C, T, N) → (T k).1 = own) (hT : zFt ci k ty true) (hg : G a = some (lb, zO ci fs)) (hdg : decode cc pc = .ok (.putfield idx, 3)) (p : Nat) (hp : pc + 3 = p) (hn : narrow ty x = x) (hfit : fits ty x = true) (hl : k < fs.length) (hs : fs.set k x = fs') (kk : ZW g X u v (zup G a (lb, zO ci fs')) p L st) : ZW g X u v G pc L (x :: .ref a :: st) := by
  subst hp; subst hs
  intro H locs ls cs ss hR hS hu hv' hL
  obtain ⟨C, T, N, ref, hc, hin, hk, hlink, hr⟩ := hF
  obtain ⟨C2, T2, N2, ty0, hc2, hty, hnm, hfin, hte⟩ := hT
  cases (Option.some.inj (hc.symm.trans hc2))
  obtain ⟨ws, h1, h2, h3⟩ := hR
  obtain ⟨q0, hq⟩ := List.getElem?_of_mem (h3 a _ hg)
  exact va_putF hX.exec hX.code hX.hts hin ty0 hty hnm hX.ow hX.K h1 h2 hS q0 hq hc k hk (hX.hts _ hlink) (fun x h => by rw [← hr]; exact h) hfin hname (hdecl _ _ _ hc) (by rw [hty k hk, hte]) hn hfit hl hdg (fun H1 locs1 hP1 hD1 hS1 => kk H1 locs1 ls cs ss (zRel_set h2 h3 hq hP1 hD1) hS1 hu hv' hL)
theorem z_new (hX : zOk g X own cc nL ret d mc ms) {idx ci N : Nat} {fs : List Value} (lb : Nat → Nat × Nat) (hF : zNw own idx ci N fs) (hdg : decode cc pc = .ok (.new idx, 3)) (p : Nat) (hp : pc + 3 = p) (h1 : u + 1 ≤ mc) (h2 : v + N ≤ ms) (kk : ∀ a : Nat, G a = none → zA g a → ZW g X (u + 1) (v + N) (zup G a (lb a, zO ci fs)) p L (.ref a :: st)) : ZW g X u v G pc L st := by
  subst hp
  intro H locs ls cs ss hR hS hu hv' hL
  obtain ⟨C, T, ty, hc, hin, hty, hcl, hins, hini, hfs⟩ := hF
  obtain ⟨ws, q1, q2, q3⟩ := hR
  exact va_new (c0 := xC X) hX.exec hX.code hX.hts hin ty hty hX.ow (hX.hts _ hcl) (hX.hts _ hins) (hX.hts _ hini) hX.K q1 q2 hS (zA_new hX.st) hc hfs (by rw [hX.room]; exact Nat.le_trans (Nat.add_le_add_right hu 1) h1) (by rw [hX.room]; exact Nat.le_trans (Nat.add_le_add_right hv' N) h2) hdg
    (fun q H1 hP1 hD1 hS1 => by
      obtain ⟨r1, r2, r3⟩ := zRel_push (lb := lb q) q3 hP1 hD1
      exact kk q r2 r3 H1 locs ls (cs + 1) (ss + N) r1 hS1 (Nat.add_le_add_right hu 1) (Nat.add_le_add_right hv' N) hL)
theorem z_objInit (hX : zOk g X own cc nL ret d mc ms) {idx a : Nat} (hq : Jvm.Cond.methodLink own idx Lib.objectInit ∈ lw_all) (hq2 : Jvm.Cond.instanceMethod Lib.objectInit ∈ lw_all) (hq3 : Jvm.Cond.code Lib.objectInit ⟨#[0xb1]⟩ 1 none ∈ lw_all) (hdg : decode cc pc = .ok (.invokespecial idx, 3)) (p : Nat) (hp : pc + 3 = p) (hd : 1 ≤ d) (hcat : (st.map fun v => v.category).sum ≤ 8) (kk : ZW g X u v G p L st) : ZW g X u v G pc L (.ref a :: st) := by
  subst hp
  intro H locs ls cs ss hR hS hu hv' hL
  refine W.objInit hX.exec hX.code hX.ow (hX.hts _ hq) (hX.hts _ hq2) (hX.hts _ hq3) rfl hL.1 rfl hdg (by rw [hX.room]; exact hd) ?_ (kk H locs ls cs ss hR hS hu hv' hL)
  have h1 := lv_room (m := xM X) (pc := pc) (ls := ls) (rest := .ref a :: st) hcat
  have h2 : (xR X).locals = 64 * d := by rw [hX.room]; rfl
  rw [h2]
  omega
-- arrays
theorem z_alen (hX : zOk g X own cc nL ret d mc ms) {a : Nat} {lb : Nat × Nat} {c : ClassId} {x : vp_A} {w : Int32} (t0 : Nat) {ty : FieldType} (ht : (ztys g)[t0]? = some (c, ty)) (hg : G a = some (lb, .inl (c, x))) (hdg : decode cc pc = .ok (.arraylength, 1)) (p : Nat) (hp : pc + 1 = p) (hw : Int32.ofNat x.1 = w) (kk : ZW g X u v G p L (.int w :: st)) : ZW g X u v G pc L (.ref a :: st) := by
  subst hp
  intro H locs ls cs ss hR hS hu hv' hL
  obtain ⟨ws, h1, h2, h3⟩ := hR
  obtain ⟨q0, hq⟩ := List.getElem?_of_mem (h3 a _ hg)
  exact va_alen hX.exec hX.code hX.K h1 q0 t0 hq ht hw hdg (kk H locs ls cs ss ⟨ws, h1, h2, h3⟩ hS hu hv' hL)
theorem z_iald (hX : zOk g X own cc nL ret d mc ms) {a n : Nat} {lb : Nat × Nat} {f : Nat → Int32} {i w : Int32} (hg : G a = some (lb, zI (zca g 0) n f)) (hdg : decode cc pc = .ok (.iaload, 1)) (p : Nat) (hp : pc + 1 = p) (hin : vp_in i n) (hw : f i.toNatClampNeg = w) (kk : ZW g X u v G p L (.int w :: st)) : ZW g X u v G pc L (.int i :: .ref a :: st) := by
  subst hp
  intro H locs ls cs ss hR hS hu hv' hL
  obtain ⟨ws, h1, h2, h3⟩ := hR
  obtain ⟨q0, hq⟩ := List.getElem?_of_mem (h3 a _ hg)
  exact va_iald hX.exec hX.code hX.K h1 q0 0 hq rfl hin hdg (by rw [hw]; exact kk H locs ls cs ss ⟨ws, h1, h2, h3⟩ hS hu hv' hL)
theorem z_bald (hX : zOk g X own cc nL ret d mc ms) {a n : Nat} {lb : Nat × Nat} {f : Nat → Int32} {i w : Int32} (hg : G a = some (lb, zI (zca g 1) n f)) (hdg : decode cc pc = .ok (.baload, 1)) (p : Nat) (hp : pc + 1 = p) (hin : vp_in i n) (hw : f i.toNatClampNeg = w) (kk : ZW g X u v G p L (.int w :: st)) : ZW g X u v G pc L (.int i :: .ref a :: st) := by
  subst hp
  intro H locs ls cs ss hR hS hu hv' hL
  obtain ⟨ws, h1, h2, h3⟩ := hR
  obtain ⟨q0, hq⟩ := List.getElem?_of_mem (h3 a _ hg)
  exact va_bald hX.exec hX.code hX.K h1 q0 1 hq rfl hin hdg (by rw [hw]; exact kk H locs ls cs ss ⟨ws, h1, h2, h3⟩ hS hu hv' hL)
theorem z_iast (hX : zOk g X own cc nL ret d mc ms) {a n : Nat} {lb : Nat × Nat} {f f' : Nat → Int32} {i x : Int32} (hg : G a = some (lb, zI (zca g 0) n f)) (hdg : decode cc pc = .ok (.iastore, 1)) (p : Nat) (hp : pc + 1 = p) (hin : vp_in i n) (hf : upd f i.toNatClampNeg x = f') (kk : ZW g X u v (zup G a (lb, zI (zca g 0) n f')) p L st) : ZW g X u v G pc L (.int x :: .int i :: .ref a :: st) := by
  subst hp; subst hf
  intro H locs ls cs ss hR hS hu hv' hL
  obtain ⟨ws, h1, h2, h3⟩ := hR
  obtain ⟨q0, hq⟩ := List.getElem?_of_mem (h3 a _ hg)
  exact va_iast hX.exec hX.code hX.K h1 h2 hS q0 0 hq rfl hin hdg (fun H1 locs1 hP1 hD1 hS1 => kk H1 locs1 ls cs ss (zRel_set h2 h3 hq hP1 hD1) hS1 hu hv' hL)
theorem z_bast (hX : zOk g X own cc nL ret d mc ms) {a n : Nat} {lb : Nat × Nat} {f f' : Nat → Int32} {i x : Int32} (hg : G a = some (lb, zI (zca g 1) n f)) (hdg : decode cc pc = .ok (.bastore, 1)) (p : Nat) (hp : pc + 1 = p) (hin : vp_in i n) (hf : upd f i.toNatClampNeg (vp_nar .byte x) = f') (kk : ZW g X u v (zup G a (lb, zI (zca g 1) n f')) p L st) : ZW g X u v G pc L (.int x :: .int i :: .ref a :: st) := by
  subst hp; subst hf
  intro H locs ls cs ss hR hS hu hv' hL
  obtain ⟨ws, h1, h2, h3⟩ := hR
  obtain ⟨q0, hq⟩ := List.getElem?_of_mem (h3 a _ hg)
  exact va_bast hX.exec hX.code hX.K h1 h2 hS q0 1 hq rfl hin hdg (fun H1 locs1 hP1 hD1 hS1 => kk H1 locs1 ls cs ss (zRel_set h2 h3 hq hP1 hD1) hS1 hu hv' hL)
/-- a place of an array of references -/
theorem z_aald (hX : zOk g X own cc nL ret d mc ms) {a n : Nat} {lb : Nat × Nat} {c : ClassId} {f : Nat → Option Nat} {i : Int32} {x : Value} (t0 : Nat) {ty : FieldType} (ht : (ztys g)[t0]? = some (c, ty)) (hrt : ty.isReference = true) (hg : G a = some (lb, zR c n f)) (hdg : decode cc pc = .ok (.aaload, 1)) (p : Nat) (hp : pc + 1 = p) (hin : vp_in i n) (hw : va_rf (f i.toNatClampNeg) = x) (kk : ZW g X u v G p L (x :: st)) : ZW g X u v G pc L (.int i :: .ref a :: st) := by
  subst hp; subst hw
  intro H locs ls cs ss hR hS hu hv' hL
  obtain ⟨ws, h1, h2, h3⟩ := hR
  obtain ⟨q0, hq⟩ := List.getElem?_of_mem (h3 a _ hg)
  have hlt : i.toNatClampNeg < n := Nat.not_le.mp fun q => hin (Or.inr q)
  exact W.aald (v := va_rf (f i.toNatClampNeg)) (ty := ty) hX.exec hX.code (h1 q0 _ hq) ((hX.K.2 t0 _ ht).1 n (fun j => va_rf (f j))) hrt (fun q => by cases q) (by show ¬ (i < 0 ∨ (arrV _ _ _).slots.size ≤ _); rw [arrV_size]; exact hin) (by show (arrV _ _ _).slots[_]? = _; rw [arrV_read _ _ hlt]) rfl rfl hdg (kk H locs ls cs ss ⟨ws, h1, h2, h3⟩ hS hu hv' hL)
theorem z_newa (hX : zOk g X own cc nL ret d mc ms) (lb : Nat → Nat × Nat) {atype : ArrayType} (t0 : Nat) {c : ClassId} {ty : FieldType} (hty : newarray.typeOf atype = ty) (ht : (ztys g)[t0]? = some (c, ty)) (hq : Jvm.Cond.arrayClass (newarray.typeOf atype) ∈ lw_all) {n : Int32} {N : Nat} {a0 : vp_A} (ha : ∀ cA : ClassId, vp_cell cA a0 = arrV cA N (fun _ => defaultValue ty)) (hdg : decode cc pc = .ok (.newarray atype, 2)) (p : Nat) (hp : pc + 2 = p) (hn : ¬ n < 0) (hN : n.toNatClampNeg = N) (hb : N * componentBytes ty ≤ 536870912) (hu1 : u + 1 ≤ mc) (hv1 : v + N ≤ ms) (kk : ∀ a : Nat, G a = none → zA g a → ZW g X (u + 1) (v + N) (zup G a (lb a, .inl (c, a0))) p L (.ref a :: st)) : ZW g X u v G pc L (.int n :: st) := by
  subst hp
  intro H locs ls cs ss hR hS hu hv' hL
  obtain ⟨ws, q1, q2, q3⟩ := hR
  exact va_newa hX.exec hX.code (hX.hts _ hq) hty hX.K q1 q2 hS (zA_new hX.st) ha hn hN hb (by rw [hX.room]; exact Nat.le_trans (Nat.add_le_add_right hu 1) hu1) (by rw [hX.room]; exact Nat.le_trans (Nat.add_le_add_right hv' N) hv1) hdg
    (fun q cA H1 hK1 hP1 hD1 hS1 => by
      have hcA : cA = c := by
        have e1 := (hK1.2 (ztys g).length (cA, ty) (by simp)).2
        have e2 := (hX.K.2 t0 _ ht).2
        cases ty with
        | object C =>
          obtain ⟨_, _, _, _, _, f1⟩ := e1
          obtain ⟨_, _, _, _, _, f2⟩ := e2
          exact Option.some.inj (f1.symm.trans f2)
        | _ => exact Option.some.inj (e1.symm.trans e2)
      subst hcA
      obtain ⟨r1, r2, r3⟩ := zRel_push (lb := lb q) q3 hP1 hD1
      exact kk q r2 r3 H1 locs ls (cs + 1) (ss + N) r1 hS1 (Nat.add_le_add_right hu 1) (Nat.add_le_add_right hv' N) hL)
end ZHeap
/-! CORE 4: calls -/
def zCV (own : String) (idx : Nat) (C : String) (y : MethodName) (b : ByteArray) (nl : Nat) (r : Option FieldType) (n : Nat) : Prop :=
  GoodIn lw_all (wsV own idx C y (ws_ y b nl r)) ∧ (y.cls = C ∧ y.cls ≠ "java/lang/invoke/MethodHandle" ∧ y.cls ≠ "java/lang/invoke/VarHandle" ∧ (parseMethodDescriptor y.desc).map (fun d => d.parameters.length) = some n)
def zCS (own : String) (idx : Nat) (y : MethodName) (b : ByteArray) (nl : Nat) (r : Option FieldType) (n : Nat) : Prop :=
  GoodIn lw_all (va_wsS own idx y (ws_ y b nl r)) ∧ (y.cls ≠ "java/lang/invoke/MethodHandle" ∧ y.cls ≠ "java/lang/invoke/VarHandle" ∧ (parseMethodDescriptor y.desc).map (fun d => d.parameters.length) = some n)
def zCI (own : String) (idx : Nat) (y : MethodName) (b : ByteArray) (nl : Nat) (n : Nat) : Prop :=
  GoodIn lw_all (ws_ y b nl none) ∧ Jvm.Cond.initialized y.cls ∈ lw_all ∧ Jvm.Cond.methodLink own idx y ∈ lw_all ∧ Jvm.Cond.instanceMethod y ∈ lw_all ∧ y.name = "<init>" ∧ (y.cls ≠ "java/lang/invoke/MethodHandle" ∧ y.cls ≠ "java/lang/invoke/VarHandle" ∧ (parseMethodDescriptor y.desc).map (fun d => d.parameters.length) = some n)
def zCVN (own : String) (idx : Nat) (C : String) (y : MethodName) (host : String) (b : ByteArray) (nl : Nat) (r : Option FieldType) (n : Nat) : Prop :=
  GoodIn lw_all (ws_ y b nl r) ∧ Jvm.Cond.methodLinkNest own idx y host ∈ lw_tbl ∧ Jvm.Cond.initialized y.cls ∈ lw_all ∧ Jvm.Cond.instanceMethod y ∈ lw_all ∧ Jvm.Cond.selects C y y ∈ lw_all ∧ (y.cls ≠ "java/lang/invoke/MethodHandle" ∧ y.cls ≠ "java/lang/invoke/VarHandle" ∧ (parseMethodDescriptor y.desc).map (fun d => d.parameters.length) = some n)
def zCSN (own : String) (idx : Nat) (y : MethodName) (host : String) (b : ByteArray) (nl : Nat) (r : Option FieldType) (n : Nat) : Prop :=
  GoodIn lw_all (ws_ y b nl r) ∧ Jvm.Cond.methodLinkNest own idx y host ∈ lw_tbl ∧ Jvm.Cond.initialized y.cls ∈ lw_all ∧ Jvm.Cond.static y ∈ lw_all ∧ (y.cls ≠ "java/lang/invoke/MethodHandle" ∧ y.cls ≠ "java/lang/invoke/VarHandle" ∧ (parseMethodDescriptor y.desc).map (fun d => d.parameters.length) = some n)
def zCIN (own : String) (idx : Nat) (y : MethodName) (host : String) (b : ByteArray) (nl : Nat) (n : Nat) : Prop :=
  GoodIn lw_all (ws_ y b nl none) ∧ Jvm.Cond.methodLinkNest own idx y host ∈ lw_tbl ∧ Jvm.Cond.initialized y.cls ∈ lw_all ∧ Jvm.Cond.instanceMethod y ∈ lw_all ∧ y.name = "<init>" ∧ (y.cls ≠ "java/lang/invoke/MethodHandle" ∧ y.cls ≠ "java/lang/invoke/VarHandle" ∧ (parseMethodDescriptor y.desc).map (fun d => d.parameters.length) = some n)
/-- a pure answer: this value, nothing changed -/
def zRet (w : Option Value) (G : zHG) : Option Value → zHG → Prop := fun r G' => r = w ∧ G' = G
section ZCall
variable {g : Zg} {X : Zx} {own : String} {cc : ByteArray} {nL : Nat} {ret : Option FieldType} {d mc ms : Nat} {u v pc : Nat} {G : zHG} {L : List (Nat × Value)} {st rest : List Value}
variable {y : MethodName} {b : ByteArray} {nl n idx d' mc' ms' : Nat} {rt : Option FieldType} {P : Option Value → zHG → Prop} {As : List Value}
theorem z_cont {H : Heap} {locs : List Loc} {ls : Array Slot} {cs ss : Nat} {a : Array Value} {st0 : List Value} (hU : zU g (xS X)) (hS : va_S (zA g) (xS X).heap H locs) (hu : cs ≤ u) (hv : ss ≤ v) (hL : lv_has ls (xC X).maxLocals L)
    (hr : va_Run (xP X) (zLa g) (xE X) (xR X) (xS X) (xM X) (xA X) (xB X) (xMe X) (xC X) H locs cs ss mc' ms' (F0 (xM X) pc ls st0) rest (zQ g P a) (zA g))
    (k : ∀ (r : Option Value) (G' : zHG), P r G' → ZW g X (u + mc') (v + ms') G' (pc + 3) L (r.toList ++ rest)) :
    W (xP X) (zLa g) (xE X) (xR X) (xS X) (xM X) (xA X) (xB X) (xMe X) (xC X) H locs cs ss (xQ X) (F0 (xM X) pc ls st0) := by
  intro T hT Xs
  obtain ⟨w, st₀, t, T', L', h0, X', hL', e1, e2, ⟨⟨r, G', hw, hp, hR'⟩, hz, hk⟩, hst⟩ := hr T hT Xs
  cases hw
  rw [h0] at hz hk
  have hS' : va_S (zA g) (xS X).heap T'.heap (locs ++ L') := ⟨Nat.le_trans hS.1 (by rw [e1]; exact hz), fun q h1 h2 => by rw [e1, hk q (Nat.lt_of_lt_of_le h1 hS.1) h2]; exact hS.2.1 q h1 h2, fun q hq => by
    rcases List.mem_append.mp hq with h | h
    · exact hS.2.2 q h
    · exact hL' q h⟩
  obtain ⟨t2, a1, b1⟩ := k w G' hp T'.heap (locs ++ L') ls (cs + mc') (ss + ms') (by rw [e1]; exact hR') hS' (Nat.add_le_add_right hu _) (Nat.add_le_add_right hv _) hL T' rfl X'
  exact ⟨t2, hst t2 a1, b1⟩
theorem z_preS {H : Heap} {locs : List Loc} (hX : zOk g X own cc nL ret d mc ms) (hR : zRel g G H) (hS : va_S (zA g) (xS X).heap H locs) : PreS (xS X) H (zPc g As G) As :=
  ⟨zPc_blind, fun U hH hW => ⟨rfl, by rw [hH]; exact hR, zU.next hX.st hS hH hW⟩⟩
theorem z_recv {H : Heap} (hX : zOk g X own cc nL ret d mc ms) (hR : zRel g G H) {a ci : Nat} {lb : Nat × Nat} {fs : List Value} {q : vw_C} (hg : G a = some (lb, zO ci fs)) (hc : zcl[ci]? = some q) : ∃ cell : Cell, H[a]? = some cell ∧ cell.vm.isStatics = false ∧ (xS X).vm.findClass q.1 = some cell.cls := by
  obtain ⟨ws, h1, h2, h3⟩ := hR
  obtain ⟨q0, hq⟩ := List.getElem?_of_mem (h3 a _ hg)
  exact va_recv hX.K h1 hc hq
theorem z_callV (hX : zOk g X own cc nL ret d mc ms) {C : String} (cw : zCV own idx C y b nl rt n) {a ci : Nat} {lb : Nat × Nat} {fs : List Value} {q : vw_C} (hM : ZM g y b nl rt d' mc' ms' (.ref a :: As) G P) (hg : G a = some (lb, zO ci fs)) (hc : zcl[ci]? = some q) (hqC : q.1 = C) (hdg : decode cc pc = .ok (.invokevirtual idx, 3)) (p : Nat) (hp : pc + 3 = p) (hst : st = As.reverse ++ .ref a :: rest) (hn : As.length = n) (hcat : (rest.map fun v => v.category).sum ≤ 8) (hd : d' + 1 ≤ d ∧ nl ≤ 45) (hb : u + mc' ≤ mc ∧ v + ms' ≤ ms) (k : ∀ (r : Option Value) (G' : zHG), P r G' → ZW g X (u + mc') (v + ms') G' p L (r.toList ++ rest)) : ZW g X u v G pc L st := by
  subst hp
  subst hst
  intro H locs ls cs ss hR hS hu hv hL
  obtain ⟨cw1, cw2⟩ := cw
  have hcw := cwV (R := xR X) (ws := ws_ y b nl rt) (rm := zroom d' mc' ms') (mc := mc') (ms := ms') n hX.hts cw1 rfl rfl rfl cw2 (by rw [hX.room]; show d' + 1 ≤ d ∧ 8 + (nl + 11) + 64 * d' ≤ 64 * d; omega)
  refine z_cont hX.st hS hu hv hL (va_runV ⟨hX.exec, hX.code, hX.maxL, hX.ow, hX.hts⟩ hM hcw ⟨zPc_blind, by rw [← hqC]; exact z_recv hX hR hg hc, (z_preS hX hR hS).2⟩ rfl hn (by rw [← hX.maxL]; exact hL.1) rfl (lv_room hcat) hdg (by rw [hX.room]; exact ⟨Nat.le_trans (Nat.add_le_add_right hu _) hb.1, Nat.le_trans (Nat.add_le_add_right hv _) hb.2⟩)) k
theorem z_callS (hX : zOk g X own cc nL ret d mc ms) (cw : zCS own idx y b nl rt n) (hM : ZM g y b nl rt d' mc' ms' As G P) (hdg : decode cc pc = .ok (.invokestatic idx, 3)) (p : Nat) (hp : pc + 3 = p) (hst : st = As.reverse ++ rest) (hn : As.length = n) (hcat : (rest.map fun v => v.category).sum ≤ 8) (hd : d' + 1 ≤ d ∧ nl ≤ 45) (hb : u + mc' ≤ mc ∧ v + ms' ≤ ms) (k : ∀ (r : Option Value) (G' : zHG), P r G' → ZW g X (u + mc') (v + ms') G' p L (r.toList ++ rest)) : ZW g X u v G pc L st := by
  subst hp
  subst hst
  intro H locs ls cs ss hR hS hu hv hL
  obtain ⟨cw1, cw2⟩ := cw
  have hcw := va_cwS (R := xR X) (ws := ws_ y b nl rt) (rm := zroom d' mc' ms') (mc := mc') (ms := ms') n hX.hts cw1 rfl rfl rfl cw2 (by rw [hX.room]; show d' + 1 ≤ d ∧ 8 + (nl + 11) + 64 * d' ≤ 64 * d; omega)
  refine z_cont hX.st hS hu hv hL (va_runS ⟨hX.exec, hX.code, hX.maxL, hX.ow, hX.hts⟩ hM hcw (z_preS hX hR hS) rfl hn (by rw [← hX.maxL]; exact hL.1) rfl (lv_room hcat) hdg (by rw [hX.room]; exact ⟨Nat.le_trans (Nat.add_le_add_right hu _) hb.1, Nat.le_trans (Nat.add_le_add_right hv _) hb.2⟩)) k
theorem z_callI (hX : zOk g X own cc nL ret d mc ms) (cw : zCI own idx y b nl n) {a : Nat} (hM : ZM g y b nl none d' mc' ms' (.ref a :: As) G P) (hdg : decode cc pc = .ok (.invokespecial idx, 3)) (p : Nat) (hp : pc + 3 = p) (hst : st = As.reverse ++ .ref a :: rest) (hn : As.length = n) (hcat : (rest.map fun v => v.category).sum ≤ 8) (hd : d' + 1 ≤ d ∧ nl ≤ 45) (hb : u + mc' ≤ mc ∧ v + ms' ≤ ms) (k : ∀ (r : Option Value) (G' : zHG), P r G' → ZW g X (u + mc') (v + ms') G' p L (r.toList ++ rest)) : ZW g X u v G pc L st := by
  subst hp
  subst hst
  intro H locs ls cs ss hR hS hu hv hL
  obtain ⟨c1, c2, c3, c4, c5, c6⟩ := cw
  have hcw := cwI (R := xR X) (ws := ws_ y b nl none) (rm := zroom d' mc' ms') (mc := mc') (ms := ms') n hX.hts c1 rfl rfl rfl (hX.hts _ c2) (hX.hts _ c3) (hX.hts _ c4) c5 c6 (by rw [hX.room]; show d' + 1 ≤ d ∧ 8 + (nl + 11) + 64 * d' ≤ 64 * d; omega)
  refine z_cont hX.st hS hu hv hL (va_runI ⟨hX.exec, hX.code, hX.maxL, hX.ow, hX.hts⟩ hM hcw (z_preS hX hR hS) rfl hn (by rw [← hX.maxL]; exact hL.1) rfl (lv_room hcat) hdg (by rw [hX.room]; exact ⟨Nat.le_trans (Nat.add_le_add_right hu _) hb.1, Nat.le_trans (Nat.add_le_add_right hv _) hb.2⟩)) k
theorem z_callVN (hX : zOk g X own cc nL ret d mc ms) {C host : String} (cw : zCVN own idx C y host b nl rt n) {a ci : Nat} {lb : Nat × Nat} {fs : List Value} {q : vw_C} (hM : ZM g y b nl rt d' mc' ms' (.ref a :: As) G P) (hg : G a = some (lb, zO ci fs)) (hc : zcl[ci]? = some q) (hqC : q.1 = C) (hdg : decode cc pc = .ok (.invokevirtual idx, 3)) (p : Nat) (hp : pc + 3 = p) (hst : st = As.reverse ++ .ref a :: rest) (hn : As.length = n) (hcat : (rest.map fun v => v.category).sum ≤ 8) (hd : d' + 1 ≤ d ∧ nl ≤ 45) (hb : u + mc' ≤ mc ∧ v + ms' ≤ ms) (k : ∀ (r : Option Value) (G' : zHG), P r G' → ZW g X (u + mc') (v + ms') G' p L (r.toList ++ rest)) : ZW g X u v G pc L st := by
  subst hp
  subst hst
  intro H locs ls cs ss hR hS hu hv hL
  obtain ⟨c1, c2, c3, c4, c5, c6⟩ := cw
  have hcw := va_cnB (R := xR X) (ws := ws_ y b nl rt) (rm := zroom d' mc' ms') (mc := mc') (ms := ms') n hX.hts c1 rfl rfl rfl (va_Nw.warmM hX.st.1 (va_Nw.of rfl (hX.G.2.1 _ c2))) (hX.hts _ c3) c6 (by rw [hX.room]; show d' + 1 ≤ d ∧ 8 + (nl + 11) + 64 * d' ≤ 64 * d; omega)
  refine z_cont hX.st hS hu hv hL (va_runVN ⟨hX.exec, hX.code, hX.maxL, hX.ow, hX.hts⟩ hM ⟨hcw, hX.hts _ c4, hX.hts _ c5⟩ ⟨zPc_blind, by rw [← hqC]; exact z_recv hX hR hg hc, (z_preS hX hR hS).2⟩ rfl hn (by rw [← hX.maxL]; exact hL.1) rfl (lv_room hcat) hdg (by rw [hX.room]; exact ⟨Nat.le_trans (Nat.add_le_add_right hu _) hb.1, Nat.le_trans (Nat.add_le_add_right hv _) hb.2⟩)) k
theorem z_callSN (hX : zOk g X own cc nL ret d mc ms) {host : String} (cw : zCSN own idx y host b nl rt n) (hM : ZM g y b nl rt d' mc' ms' As G P) (hdg : decode cc pc = .ok (.invokestatic idx, 3)) (p : Nat) (hp : pc + 3 = p) (hst : st = As.reverse ++ rest) (hn : As.length = n) (hcat : (rest.map fun v => v.category).sum ≤ 8) (hd : d' + 1 ≤ d ∧ nl ≤ 45) (hb : u + mc' ≤ mc ∧ v + ms' ≤ ms) (k : ∀ (r : Option Value) (G' : zHG), P r G' → ZW g X (u + mc') (v + ms') G' p L (r.toList ++ rest)) : ZW g X u v G pc L st := by
  subst hp
  subst hst
  intro H locs ls cs ss hR hS hu hv hL
  obtain ⟨c1, c2, c3, c4, c6⟩ := cw
  have hcw := va_cnB (R := xR X) (ws := ws_ y b nl rt) (rm := zroom d' mc' ms') (mc := mc') (ms := ms') n hX.hts c1 rfl rfl rfl (va_Nw.warmM hX.st.1 (va_Nw.of rfl (hX.G.2.1 _ c2))) (hX.hts _ c3) c6 (by rw [hX.room]; show d' + 1 ≤ d ∧ 8 + (nl + 11) + 64 * d' ≤ 64 * d; omega)
  refine z_cont hX.st hS hu hv hL (va_runSN ⟨hX.exec, hX.code, hX.maxL, hX.ow, hX.hts⟩ hM ⟨hcw, hX.hts _ c4, trivial⟩ (z_preS hX hR hS) rfl hn (by rw [← hX.maxL]; exact hL.1) rfl (lv_room hcat) hdg (by rw [hX.room]; exact ⟨Nat.le_trans (Nat.add_le_add_right hu _) hb.1, Nat.le_trans (Nat.add_le_add_right hv _) hb.2⟩)) k
theorem z_callIN (hX : zOk g X own cc nL ret d mc ms) {host : String} (cw : zCIN own idx y host b nl n) {a : Nat} (hM : ZM g y b nl none d' mc' ms' (.ref a :: As) G P) (hdg : decode cc pc = .ok (.invokespecial idx, 3)) (p : Nat) (hp : pc + 3 = p) (hst : st = As.reverse ++ .ref a :: rest) (hn : As.length = n) (hcat : (rest.map fun v => v.category).sum ≤ 8) (hd : d' + 1 ≤ d ∧ nl ≤ 45) (hb : u + mc' ≤ mc ∧ v + ms' ≤ ms) (k : ∀ (r : Option Value) (G' : zHG), P r G' → ZW g X (u + mc') (v + ms') G' p L (r.toList ++ rest)) : ZW g X u v G pc L st := by
  subst hp
  subst hst
  intro H locs ls cs ss hR hS hu hv hL
  obtain ⟨c1, c2, c3, c4, c5, c6⟩ := cw
  have hcw := va_cnB (R := xR X) (ws := ws_ y b nl none) (rm := zroom d' mc' ms') (mc := mc') (ms := ms') n hX.hts c1 rfl rfl rfl (va_Nw.warmM hX.st.1 (va_Nw.of rfl (hX.G.2.1 _ c2))) (hX.hts _ c3) c6 (by rw [hX.room]; show d' + 1 ≤ d ∧ 8 + (nl + 11) + 64 * d' ≤ 64 * d; omega)
  refine z_cont hX.st hS hu hv hL (va_runIN ⟨hX.exec, hX.code, hX.maxL, hX.ow, hX.hts⟩ hM ⟨hcw, c5, hX.hts _ c4⟩ (z_preS hX hR hS) rfl hn (by rw [← hX.maxL]; exact hL.1) rfl (lv_room hcat) hdg (by rw [hX.room]; exact ⟨Nat.le_trans (Nat.add_le_add_right hu _) hb.1, Nat.le_trans (Nat.add_le_add_right hv _) hb.2⟩)) k
theorem z_mmax (hX : zOk g X own cc nL ret d mc ms) {x y w : Int32} (h1 : Jvm.Cond.methodLink own idx Lib.Math.max.name ∈ lw_all) (h2 : Jvm.Cond.static Lib.Math.max.name ∈ lw_all) (h3 : Jvm.Cond.initialized "java/lang/Math" ∈ lw_all) (h4 : Jvm.Cond.code Lib.Math.max.name Lib.Math.max.code 2 (some .int) ∈ lw_all) (hdg : decode cc pc = .ok (.invokestatic idx, 3)) (p : Nat) (hp : pc + 3 = p) (hd : 1 ≤ d) (hcat : (st.map fun v => v.category).sum ≤ 8) (hu' : u ≤ mc) (hv' : v ≤ ms) (hw : (if x < y then y else x) = w) (k : ZW g X u v G p L (.int w :: st)) : ZW g X u v G pc L (.int y :: .int x :: st) := by
  subst hp; subst hw
  intro H locs ls cs ss hR hS hu hv hL
  exact va_mmax hX.exec hX.code hL.1.symm hX.ow (hX.hts _ h1) (hX.hts _ h2) (hX.hts _ h3) (hX.hts _ h4) (by rw [hX.room]; exact hd) (by rw [hX.room]; show _ ≤ 64 * d; omega) (by rw [hX.room]; exact Nat.le_trans hu hu') (by rw [hX.room]; exact Nat.le_trans hv hv') hdg (k H locs ls cs ss hR hS hu hv hL)
theorem z_mmin (hX : zOk g X own cc nL ret d mc ms) {x y w : Int32} (h1 : Jvm.Cond.methodLink own idx Lib.Math.min.name ∈ lw_all) (h2 : Jvm.Cond.static Lib.Math.min.name ∈ lw_all) (h3 : Jvm.Cond.initialized "java/lang/Math" ∈ lw_all) (h4 : Jvm.Cond.code Lib.Math.min.name Lib.Math.min.code 2 (some .int) ∈ lw_all) (hdg : decode cc pc = .ok (.invokestatic idx, 3)) (p : Nat) (hp : pc + 3 = p) (hd : 1 ≤ d) (hcat : (st.map fun v => v.category).sum ≤ 8) (hu' : u ≤ mc) (hv' : v ≤ ms) (hw : (if y < x then y else x) = w) (k : ZW g X u v G p L (.int w :: st)) : ZW g X u v G pc L (.int y :: .int x :: st) := by
  subst hp; subst hw
  intro H locs ls cs ss hR hS hu hv hL
  exact va_mmin hX.exec hX.code hL.1.symm hX.ow (hX.hts _ h1) (hX.hts _ h2) (hX.hts _ h3) (hX.hts _ h4) (by rw [hX.room]; exact hd) (by rw [hX.room]; show _ ≤ 64 * d; omega) (by rw [hX.room]; exact Nat.le_trans hu hu') (by rw [hX.room]; exact Nat.le_trans hv hv') hdg (k H locs ls cs ss hR hS hu hv hL)
end ZCall
/-! CORE 5: branches on small numbers and on truth values, calls in their commonest forms, folds -/
section ZMore
variable {g : Zg} {X : Zx} {own : String} {cc : ByteArray} {nL : Nat} {ret : Option FieldType} {d mc ms : Nat} {u v pc : Nat} {G : zHG} {L : List (Nat × Value)} {st rest : List Value}
theorem z_icmp_geN (hX : zOk g X own cc nL ret d mc ms) (a b : Nat) (ha : a < 2147483648) (hb : b < 2147483648) {off : Int} {tgt : Nat} (hdg : decode cc pc = .ok (.if_icmp .ge off, 3)) (p : Nat) (hp : pc + 3 = p) (ht : (pc : Int) + off = (tgt : Int)) (kt : b ≤ a → ZW g X u v G tgt L st) (kf : a < b → ZW g X u v G p L st) : ZW g X u v G pc L (.int (nI b) :: .int (nI a) :: st) :=
  z_icmp_ge hX hdg p hp ht (fun h => kt ((nI_leI hb ha).mp h)) (fun h => kf (Nat.lt_of_not_le fun z => h ((nI_leI hb ha).mpr z)))
theorem z_icmp_ltN (hX : zOk g X own cc nL ret d mc ms) (a b : Nat) (ha : a < 2147483648) (hb : b < 2147483648) {off : Int} {tgt : Nat} (hdg : decode cc pc = .ok (.if_icmp .lt off, 3)) (p : Nat) (hp : pc + 3 = p) (ht : (pc : Int) + off = (tgt : Int)) (kt : a < b → ZW g X u v G tgt L st) (kf : ¬ a < b → ZW g X u v G p L st) : ZW g X u v G pc L (.int (nI b) :: .int (nI a) :: st) :=
  z_icmp_lt hX hdg p hp ht (fun h => kt ((nI_ltI ha hb).mp h)) (fun h => kf fun z => h ((nI_ltI ha hb).mpr z))
theorem z_icmp_gtN (hX : zOk g X own cc nL ret d mc ms) (a b : Nat) (ha : a < 2147483648) (hb : b < 2147483648) {off : Int} {tgt : Nat} (hdg : decode cc pc = .ok (.if_icmp .gt off, 3)) (p : Nat) (hp : pc + 3 = p) (ht : (pc : Int) + off = (tgt : Int)) (kt : b < a → ZW g X u v G tgt L st) (kf : ¬ b < a → ZW g X u v G p L st) : ZW g X u v G pc L (.int (nI b) :: .int (nI a) :: st) :=
  z_icmp_gt hX hdg p hp ht (fun h => kt ((nI_ltI hb ha).mp h)) (fun h => kf fun z => h ((nI_ltI hb ha).mpr z))
theorem z_icmp_leN (hX : zOk g X own cc nL ret d mc ms) (a b : Nat) (ha : a < 2147483648) (hb : b < 2147483648) {off : Int} {tgt : Nat} (hdg : decode cc pc = .ok (.if_icmp .le off, 3)) (p : Nat) (hp : pc + 3 = p) (ht : (pc : Int) + off = (tgt : Int)) (kt : a ≤ b → ZW g X u v G tgt L st) (kf : ¬ a ≤ b → ZW g X u v G p L st) : ZW g X u v G pc L (.int (nI b) :: .int (nI a) :: st) :=
  z_icmp_le hX hdg p hp ht (fun h => kt ((nI_leI ha hb).mp h)) (fun h => kf fun z => h ((nI_leI ha hb).mpr z))
theorem z_icmp_eqN (hX : zOk g X own cc nL ret d mc ms) (a b : Nat) (ha : a < 2147483648) (hb : b < 2147483648) {off : Int} {tgt : Nat} (hdg : decode cc pc = .ok (.if_icmp .eq off, 3)) (p : Nat) (hp : pc + 3 = p) (ht : (pc : Int) + off = (tgt : Int)) (kt : a = b → ZW g X u v G tgt L st) (kf : ¬ a = b → ZW g X u v G p L st) : ZW g X u v G pc L (.int (nI b) :: .int (nI a) :: st) :=
  z_icmp_eq hX hdg p hp ht (fun h => kt ((nI_eq ha hb).mp h)) (fun h => kf fun z => h ((nI_eq ha hb).mpr z))
theorem z_icmp_neN (hX : zOk g X own cc nL ret d mc ms) (a b : Nat) (ha : a < 2147483648) (hb : b < 2147483648) {off : Int} {tgt : Nat} (hdg : decode cc pc = .ok (.if_icmp .ne off, 3)) (p : Nat) (hp : pc + 3 = p) (ht : (pc : Int) + off = (tgt : Int)) (kt : ¬ a = b → ZW g X u v G tgt L st) (kf : a = b → ZW g X u v G p L st) : ZW g X u v G pc L (.int (nI b) :: .int (nI a) :: st) :=
  z_icmp_ne hX hdg p hp ht (fun h => kt fun z => h ((nI_eq ha hb).mpr z)) (fun h => kf ((nI_eq ha hb).mp h))
theorem z_if_eqN (hX : zOk g X own cc nL ret d mc ms) (a : Nat) (ha : a < 2147483648) {off : Int} {tgt : Nat} (hdg : decode cc pc = .ok (.ifCond .eq off, 3)) (p : Nat) (hp : pc + 3 = p) (ht : (pc : Int) + off = (tgt : Int)) (kt : a = 0 → ZW g X u v G tgt L st) (kf : ¬ a = 0 → ZW g X u v G p L st) : ZW g X u v G pc L (.int (nI a) :: st) :=
  z_if_eq hX hdg p hp ht (fun h => kt ((nI_eq ha (by decide)).mp (h.trans nI_0.symm))) (fun h => kf fun z => h (by rw [z]; exact nI_0))
theorem z_if_neN (hX : zOk g X own cc nL ret d mc ms) (a : Nat) (ha : a < 2147483648) {off : Int} {tgt : Nat} (hdg : decode cc pc = .ok (.ifCond .ne off, 3)) (p : Nat) (hp : pc + 3 = p) (ht : (pc : Int) + off = (tgt : Int)) (kt : ¬ a = 0 → ZW g X u v G tgt L st) (kf : a = 0 → ZW g X u v G p L st) : ZW g X u v G pc L (.int (nI a) :: st) :=
  z_if_ne hX hdg p hp ht (fun h => kt fun z => h (by rw [z]; exact nI_0)) (fun h => kf ((nI_eq ha (by decide)).mp (h.trans nI_0.symm)))
theorem z_if_eqP (hX : zOk g X own cc nL ret d mc ms) (c : Prop) [Decidable c] {off : Int} {tgt : Nat} (hdg : decode cc pc = .ok (.ifCond .eq off, 3)) (p : Nat) (hp : pc + 3 = p) (ht : (pc : Int) + off = (tgt : Int)) (kt : ¬ c → ZW g X u v G tgt L st) (kf : c → ZW g X u v G p L st) : ZW g X u v G pc L (.int (if c then 1 else 0) :: st) :=
  z_if_eq hX hdg p hp ht (fun h => kt fun z => by rw [if_pos z] at h; exact absurd h (by decide)) (fun h => kf (Decidable.byContradiction fun z => h (by rw [if_neg z])))
theorem z_if_neP (hX : zOk g X own cc nL ret d mc ms) (c : Prop) [Decidable c] {off : Int} {tgt : Nat} (hdg : decode cc pc = .ok (.ifCond .ne off, 3)) (p : Nat) (hp : pc + 3 = p) (ht : (pc : Int) + off = (tgt : Int)) (kt : c → ZW g X u v G tgt L st) (kf : ¬ c → ZW g X u v G p L st) : ZW g X u v G pc L (.int (if c then 1 else 0) :: st) :=
  z_if_ne hX hdg p hp ht (fun h => kt (Decidable.byContradiction fun z => h (by rw [if_neg z]))) (fun h => kf fun z => absurd (by rw [if_pos z] at h; exact h : (1 : Int32) = 0) (by decide))
theorem z_nb (c : Prop) [Decidable c] : narrow .boolean (.int (if c then 1 else 0)) = .int (if c then 1 else 0) := by by_cases h : c <;> simp only [h, if_true, if_false] <;> decide
theorem z_nb1 : narrow .boolean (.int 1) = .int 1 := by decide
theorem z_nb0 : narrow .boolean (.int 0) = .int 0 := by decide
variable {y : MethodName} {b : ByteArray} {nl n idx d' mc' ms' : Nat} {rt : Option FieldType} {P : Option Value → zHG → Prop} {As : List Value}
theorem z_callVp (hX : zOk g X own cc nL ret d mc ms) {C : String} (cw : zCV own idx C y b nl rt n) {a ci : Nat} {lb : Nat × Nat} {fs : List Value} {q : vw_C} {w : Value} (hM : ZM g y b nl rt d' 0 0 (.ref a :: As) G (zRet (some w) G)) (hg : G a = some (lb, zO ci fs)) (hc : zcl[ci]? = some q) (hqC : q.1 = C) (hdg : decode cc pc = .ok (.invokevirtual idx, 3)) (p : Nat) (hp : pc + 3 = p) (hst : st = As.reverse ++ .ref a :: rest) (hn : As.length = n) (hcat : (rest.map fun v => v.category).sum ≤ 8) (hd : d' + 1 ≤ d ∧ nl ≤ 45) (hb : u ≤ mc ∧ v ≤ ms) (k : ZW g X u v G p L (w :: rest)) : ZW g X u v G pc L st :=
  z_callV hX cw hM hg hc hqC hdg p hp hst hn hcat hd hb (fun r G' hP => by obtain ⟨rfl, rfl⟩ := hP; exact k)
theorem z_callVq (hX : zOk g X own cc nL ret d mc ms) {C : String} (cw : zCV own idx C y b nl rt n) {a ci : Nat} {lb : Nat × Nat} {fs : List Value} {q : vw_C} {w0 w : Value} (hM : ZM g y b nl rt d' 0 0 (.ref a :: As) G (zRet (some w0) G)) (hw : w0 = w) (hg : G a = some (lb, zO ci fs)) (hc : zcl[ci]? = some q) (hqC : q.1 = C) (hdg : decode cc pc = .ok (.invokevirtual idx, 3)) (p : Nat) (hp : pc + 3 = p) (hst : st = As.reverse ++ .ref a :: rest) (hn : As.length = n) (hcat : (rest.map fun v => v.category).sum ≤ 8) (hd : d' + 1 ≤ d ∧ nl ≤ 45) (hb : u ≤ mc ∧ v ≤ ms) (k : ZW g X u v G p L (w :: rest)) : ZW g X u v G pc L st :=
  z_callV hX cw hM hg hc hqC hdg p hp hst hn hcat hd hb (fun r G' hP => by obtain ⟨rfl, rfl⟩ := hP; rw [hw]; exact k)
theorem z_callVn (hX : zOk g X own cc nL ret d mc ms) {C : String} (cw : zCV own idx C y b nl rt n) {a ci : Nat} {lb : Nat × Nat} {fs : List Value} {q : vw_C} {w0 w : Value} {R : zHG → Prop} (hM : ZM g y b nl rt d' 0 0 (.ref a :: As) G (fun r G' => r = some w0 ∧ R G')) (hw : w0 = w) (hg : G a = some (lb, zO ci fs)) (hc : zcl[ci]? = some q) (hqC : q.1 = C) (hdg : decode cc pc = .ok (.invokevirtual idx, 3)) (p : Nat) (hp : pc + 3 = p) (hst : st = As.reverse ++ .ref a :: rest) (hn : As.length = n) (hcat : (rest.map fun v => v.category).sum ≤ 8) (hd : d' + 1 ≤ d ∧ nl ≤ 45) (hb : u ≤ mc ∧ v ≤ ms) (k : ∀ G' : zHG, R G' → ZW g X u v G' p L (w :: rest)) : ZW g X u v G pc L st :=
  z_callV hX cw hM hg hc hqC hdg p hp hst hn hcat hd hb (fun r G' hP => by obtain ⟨rfl, hP⟩ := hP; rw [hw]; exact k G' hP)
theorem z_callVv (hX : zOk g X own cc nL ret d mc ms) {C : String} (cw : zCV own idx C y b nl rt n) {a ci : Nat} {lb : Nat × Nat} {fs : List Value} {q : vw_C} {R : zHG → Prop} (hM : ZM g y b nl rt d' 0 0 (.ref a :: As) G (fun r G' => r = none ∧ R G')) (hg : G a = some (lb, zO ci fs)) (hc : zcl[ci]? = some q) (hqC : q.1 = C) (hdg : decode cc pc = .ok (.invokevirtual idx, 3)) (p : Nat) (hp : pc + 3 = p) (hst : st = As.reverse ++ .ref a :: rest) (hn : As.length = n) (hcat : (rest.map fun v => v.category).sum ≤ 8) (hd : d' + 1 ≤ d ∧ nl ≤ 45) (hb : u ≤ mc ∧ v ≤ ms) (k : ∀ G' : zHG, R G' → ZW g X u v G' p L rest) : ZW g X u v G pc L st :=
  z_callV hX cw hM hg hc hqC hdg p hp hst hn hcat hd hb (fun r G' hP => by obtain ⟨rfl, hP⟩ := hP; exact k G' hP)
theorem z_callVm (hX : zOk g X own cc nL ret d mc ms) {C : String} (cw : zCV own idx C y b nl rt n) {a ci : Nat} {lb : Nat × Nat} {fs : List Value} {q : vw_C} {w : Value} {R : zHG → Prop} (hM : ZM g y b nl rt d' 0 0 (.ref a :: As) G (fun r G' => r = some w ∧ R G')) (hg : G a = some (lb, zO ci fs)) (hc : zcl[ci]? = some q) (hqC : q.1 = C) (hdg : decode cc pc = .ok (.invokevirtual idx, 3)) (p : Nat) (hp : pc + 3 = p) (hst : st = As.reverse ++ .ref a :: rest) (hn : As.length = n) (hcat : (rest.map fun v => v.category).sum ≤ 8) (hd : d' + 1 ≤ d ∧ nl ≤ 45) (hb : u ≤ mc ∧ v ≤ ms) (k : ∀ G' : zHG, R G' → ZW g X u v G' p L (w :: rest)) : ZW g X u v G pc L st :=
  z_callV hX cw hM hg hc hqC hdg p hp hst hn hcat hd hb (fun r G' hP => by obtain ⟨rfl, hP⟩ := hP; exact k G' hP)
theorem z_callSp (hX : zOk g X own cc nL ret d mc ms) (cw : zCS own idx y b nl rt n) {w : Value} (hM : ZM g y b nl rt d' 0 0 As G (zRet (some w) G)) (hdg : decode cc pc = .ok (.invokestatic idx, 3)) (p : Nat) (hp : pc + 3 = p) (hst : st = As.reverse ++ rest) (hn : As.length = n) (hcat : (rest.map fun v => v.category).sum ≤ 8) (hd : d' + 1 ≤ d ∧ nl ≤ 45) (hb : u ≤ mc ∧ v ≤ ms) (k : ZW g X u v G p L (w :: rest)) : ZW g X u v G pc L st :=
  z_callS hX cw hM hdg p hp hst hn hcat hd hb (fun r G' hP => by obtain ⟨rfl, rfl⟩ := hP; exact k)
theorem z_callSNp (hX : zOk g X own cc nL ret d mc ms) {host : String} (cw : zCSN own idx y host b nl rt n) {w : Value} (hM : ZM g y b nl rt d' 0 0 As G (zRet (some w) G)) (hdg : decode cc pc = .ok (.invokestatic idx, 3)) (p : Nat) (hp : pc + 3 = p) (hst : st = As.reverse ++ rest) (hn : As.length = n) (hcat : (rest.map fun v => v.category).sum ≤ 8) (hd : d' + 1 ≤ d ∧ nl ≤ 45) (hb : u ≤ mc ∧ v ≤ ms) (k : ZW g X u v G p L (w :: rest)) : ZW g X u v G pc L st :=
  z_callSN hX cw hM hdg p hp hst hn hcat hd hb (fun r G' hP => by obtain ⟨rfl, rfl⟩ := hP; exact k)
theorem z_callVNp (hX : zOk g X own cc nL ret d mc ms) {C host : String} (cw : zCVN own idx C y host b nl rt n) {a ci : Nat} {lb : Nat × Nat} {fs : List Value} {q : vw_C} {w : Value} (hM : ZM g y b nl rt d' 0 0 (.ref a :: As) G (zRet (some w) G)) (hg : G a = some (lb, zO ci fs)) (hc : zcl[ci]? = some q) (hqC : q.1 = C) (hdg : decode cc pc = .ok (.invokevirtual idx, 3)) (p : Nat) (hp : pc + 3 = p) (hst : st = As.reverse ++ .ref a :: rest) (hn : As.length = n) (hcat : (rest.map fun v => v.category).sum ≤ 8) (hd : d' + 1 ≤ d ∧ nl ≤ 45) (hb : u ≤ mc ∧ v ≤ ms) (k : ZW g X u v G p L (w :: rest)) : ZW g X u v G pc L st :=
  z_callVN hX cw hM hg hc hqC hdg p hp hst hn hcat hd hb (fun r G' hP => by obtain ⟨rfl, rfl⟩ := hP; exact k)
end ZMore
/-- a loop's states: f j takes the state before the j-th round to that behind it -/
def zfold {α : Type} : Nat → (Nat → α → α) → α → α
  | 0, _, x => x
  | n + 1, f, x => f n (zfold n f x)
theorem zfold_0 {α : Type} (f : Nat → α → α) (x : α) : zfold 0 f x = x := rfl
theorem zfold_s {α : Type} (n : Nat) (f : Nat → α → α) (x : α) : zfold (n + 1) f x = f n (zfold n f x) := rfl
