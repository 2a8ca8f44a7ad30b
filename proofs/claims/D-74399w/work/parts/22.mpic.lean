set_option maxRecDepth 100000
/-! the picture of FireSaleModel -/
abbrev MT : Type := (Nat → Int32) × (Nat → Nat → Int32)
def msF (M : MT) (k : Nat) (x : Int32) : MT := (upd M.1 k x, M.2)
def msA (M : MT) (k : Nat) (x : Nat → Int32) : MT := (M.1, va_up M.2 k x)
theorem mgFF (M : MT) (k j : Nat) (x : Int32) (h : k ≠ j) : (msF M j x).1 k = M.1 k := if_neg h
theorem mgFs (M : MT) (k : Nat) (x : Int32) : (msF M k x).1 k = x := if_pos rfl
theorem mgAA (M : MT) (k j : Nat) (x : Nat → Int32) (h : k ≠ j) : (msA M j x).2 k = M.2 k := if_neg h
theorem mgAs (M : MT) (k : Nat) (x : Nat → Int32) : (msA M k x).2 k = x := if_pos rfl
theorem mgFA (M : MT) (k j : Nat) (x : Nat → Int32) : (msA M j x).1 k = M.1 k := rfl
theorem mgAF (M : MT) (k j : Nat) (x : Int32) : (msF M j x).2 k = M.2 k := rfl
theorem meF (M : MT) (k : Nat) : msF M k (M.1 k) = M := Prod.ext (funext fun j => by show upd M.1 k (M.1 k) j = M.1 j; unfold upd; split <;> simp_all) rfl
theorem meA (M : MT) (k : Nat) : msA M k (M.2 k) = M := Prod.ext rfl (funext fun j => by show va_up M.2 k (M.2 k) j = M.2 j; unfold va_up; split <;> simp_all)
theorem mmF (M : MT) (k : Nat) (a b : Int32) : msF (msF M k a) k b = msF M k b := Prod.ext (funext fun j => by show upd (upd M.1 k a) k b j = upd M.1 k b j; unfold upd; split <;> rfl) rfl
theorem mmA (M : MT) (k : Nat) (a b : Nat → Int32) : msA (msA M k a) k b = msA M k b := Prod.ext rfl (funext fun j => by show va_up (va_up M.2 k a) k b j = va_up M.2 k b j; unfold va_up; split <;> rfl)
theorem mcFF (M : MT) (k j : Nat) (a b : Int32) (h : k ≠ j) : msF (msF M j a) k b = msF (msF M k b) j a := Prod.ext (funext fun i => by
  show upd (upd M.1 j a) k b i = upd (upd M.1 k b) j a i
  unfold upd
  by_cases h1 : i = k
  · subst h1; simp [h]
  · simp [h1]) rfl
theorem mcAA (M : MT) (k j : Nat) (a b : Nat → Int32) (h : k ≠ j) : msA (msA M j a) k b = msA (msA M k b) j a := Prod.ext rfl (funext fun i => by
  show va_up (va_up M.2 j a) k b i = va_up (va_up M.2 k b) j a i
  unfold va_up
  by_cases h1 : i = k
  · subst h1; simp [h]
  · simp [h1])
theorem mcFA (M : MT) (k j : Nat) (a : Nat → Int32) (b : Int32) : msF (msA M j a) k b = msA (msF M k b) j a := rfl
theorem mcAF (M : MT) (k j : Nat) (a : Int32) (b : Nat → Int32) : msA (msF M j a) k b = msF (msA M k b) j a := rfl
def mt_thrown (M : MT) : Int32 := M.1 0
def ms_thrown (M : MT) (x : Int32) : MT := msF M 0 x
def mt_now (M : MT) : Nat → Int32 := M.2 0
def ms_now (M : MT) (x : Nat → Int32) : MT := msA M 0 x
def mt_aside (M : MT) : Nat → Int32 := M.2 1
def ms_aside (M : MT) (x : Nat → Int32) : MT := msA M 1 x
def mt_undos (M : MT) : Nat → Int32 := M.2 2
def ms_undos (M : MT) (x : Nat → Int32) : MT := msA M 2 x
def mt_undoMany (M : MT) : Int32 := M.1 1
def ms_undoMany (M : MT) (x : Int32) : MT := msF M 1 x
def mt_tape (M : MT) : Nat → Int32 := M.2 3
def ms_tape (M : MT) (x : Nat → Int32) : MT := msA M 3 x
def mt_taped (M : MT) : Int32 := M.1 2
def ms_taped (M : MT) (x : Int32) : MT := msF M 2 x
def mt_size (M : MT) : Int32 := M.1 3
def ms_size (M : MT) (x : Int32) : MT := msF M 3 x
def mt_at (M : MT) : Int32 := M.1 4
def ms_at (M : MT) (x : Int32) : MT := msF M 4 x
def mt_token (M : MT) : Int32 := M.1 5
def ms_token (M : MT) (x : Int32) : MT := msF M 5 x
def mt_from (M : MT) : Int32 := M.1 6
def ms_from (M : MT) (x : Int32) : MT := msF M 6 x
def mt_value (M : MT) : Int32 := M.1 7
def ms_value (M : MT) (x : Int32) : MT := msF M 7 x
def mt_fault (M : MT) : Int32 := M.1 8
def ms_fault (M : MT) (x : Int32) : MT := msF M 8 x
def mt_sold (M : MT) : Nat → Int32 := M.2 4
def ms_sold (M : MT) (x : Nat → Int32) : MT := msA M 4 x
def mt_sells (M : MT) : Nat → Int32 := M.2 5
def ms_sells (M : MT) (x : Nat → Int32) : MT := msA M 5 x
def mt_fallen (M : MT) : Int32 := M.1 9
def ms_fallen (M : MT) (x : Int32) : MT := msF M 9 x
def mt_willFall (M : MT) : Int32 := M.1 10
def ms_willFall (M : MT) (x : Int32) : MT := msF M 10 x
def mt_rounds (M : MT) : Int32 := M.1 11
def ms_rounds (M : MT) (x : Int32) : MT := msF M 11 x
def mt_coins (M : MT) : Nat → Int32 := M.2 6
def ms_coins (M : MT) (x : Nat → Int32) : MT := msA M 6 x
def mt_extraOf (M : MT) : Int32 := M.1 12
def ms_extraOf (M : MT) (x : Int32) : MT := msF M 12 x
def mt_extraCap (M : MT) : Int32 := M.1 13
def ms_extraCap (M : MT) (x : Int32) : MT := msF M 13 x
def mt_extraShock (M : MT) : Int32 := M.1 14
def ms_extraShock (M : MT) (x : Int32) : MT := msF M 14 x
def mt_buyerOf (M : MT) : Int32 := M.1 15
def ms_buyerOf (M : MT) (x : Int32) : MT := msF M 15 x
def mt_buys (M : MT) : Int32 := M.1 16
def ms_buys (M : MT) (x : Int32) : MT := msF M 16 x
def mt_part (M : MT) : Int32 := M.1 17
def ms_part (M : MT) (x : Int32) : MT := msF M 17 x
def mt_forced (M : MT) : Int32 := M.1 18
def ms_forced (M : MT) (x : Int32) : MT := msF M 18 x
def mt_left (M : MT) : Nat → Int32 := M.2 7
def ms_left (M : MT) (x : Nat → Int32) : MT := msA M 7 x
def mt_prices (M : MT) : Nat → Int32 := M.2 8
def ms_prices (M : MT) (x : Nat → Int32) : MT := msA M 8 x
def mt_musts (M : MT) : Nat → Int32 := M.2 9
def ms_musts (M : MT) (x : Nat → Int32) : MT := msA M 9 x
def mt_fell (M : MT) : Nat → Int32 := M.2 10
def ms_fell (M : MT) (x : Nat → Int32) : MT := msA M 10 x
def mt_leastLost (M : MT) : Int32 := M.1 19
def ms_leastLost (M : MT) (x : Int32) : MT := msF M 19 x
def mt_gifts (M : MT) : Nat → Int32 := M.2 11
def ms_gifts (M : MT) (x : Nat → Int32) : MT := msA M 11 x
def mt_bestGifts (M : MT) : Nat → Int32 := M.2 12
def ms_bestGifts (M : MT) (x : Nat → Int32) : MT := msA M 12 x
def mt_spelt (M : MT) : Nat → Int32 := M.2 13
def ms_spelt (M : MT) (x : Nat → Int32) : MT := msA M 13 x
def mt_speltMany (M : MT) : Int32 := M.1 20
def ms_speltMany (M : MT) (x : Int32) : MT := msF M 20 x
def mfs (o : Nat) (M : MT) : List Value := [.int (mt_thrown M), .ref (o + 1), .ref (o + 2), .ref (o + 3), .int (mt_undoMany M), .ref (o + 4), .int (mt_taped M), .int (mt_size M), .int (mt_at M), .int (mt_token M), .int (mt_from M), .int (mt_value M), .int (mt_fault M), .ref (o + 5), .ref (o + 6), .int (mt_fallen M), .int (mt_willFall M), .int (mt_rounds M), .ref (o + 7), .int (mt_extraOf M), .int (mt_extraCap M), .int (mt_extraShock M), .int (mt_buyerOf M), .int (mt_buys M), .int (mt_part M), .int (mt_forced M), .ref (o + 8), .ref (o + 9), .ref (o + 10), .ref (o + 11), .int (mt_leastLost M), .ref (o + 12), .ref (o + 13), .ref (o + 14), .int (mt_speltMany M)]
def mar (M : MT) : List (Nat × (Nat → Int32)) := [(139, mt_now M), (139, mt_aside M), (1668, mt_undos M), (800, mt_tape M), (4, mt_sold M), (4, mt_sells M), (6, mt_coins M), (4, mt_left M), (4, mt_prices M), (24, mt_musts M), (6, mt_fell M), (6, mt_gifts M), (6, mt_bestGifts M), (1200, mt_spelt M)]
/-- the object o of FireSaleModel and its arrays behind it hold M -/
def zMo (g : Zg) (G : zHG) (o : Nat) (M : MT) : Prop := G o = some ((o, 0), zO 4 (mfs o M)) ∧ ∀ (k n : Nat) (f : Nat → Int32), (mar M)[k]? = some (n, f) → G (o + (k + 1)) = some ((o, k + 1), zI (zca g 0) n f)
/-- nothing but what bears the owner o is changed -/
def zFr (o : Nat) (G G' : zHG) : Prop := ∀ (a : Nat) (w : (Nat × Nat) × va_E), G a = some w → w.1.1 ≠ o → G' a = some w
theorem zFr.rf {o : Nat} {G : zHG} : zFr o G G := fun _ _ h _ => h
theorem zFr.tr {o : Nat} {G G1 G2 : zHG} (h1 : zFr o G G1) (h2 : zFr o G1 G2) : zFr o G G2 := fun a w h hn => h2 a w (h1 a w h hn) hn
def zMs (g : Zg) (G0 G : zHG) (o : Nat) (M : MT) : Prop := zMo g G o M ∧ zFr o G0 G
theorem zMs.rf {g : Zg} {G : zHG} {o : Nat} {M : MT} (h : zMo g G o M) : zMs g G G o M := ⟨h, zFr.rf⟩
theorem zMs.tr {g : Zg} {G0 G G' : zHG} {o : Nat} {M M' : MT} (h : zMs g G0 G o M) (h' : zMs g G G' o M') : zMs g G0 G' o M' := ⟨h'.1, h.2.tr h'.2⟩
theorem zMo.o {g : Zg} {G : zHG} {o : Nat} {M : MT} (h : zMo g G o M) : G o = some ((o, 0), zO 4 (mfs o M)) := h.1
theorem zMo.ar {g : Zg} {G : zHG} {o : Nat} {M : MT} (h : zMo g G o M) (k : Nat) {n : Nat} {f : Nat → Int32} (hk : (mar M)[k]? = some (n, f)) : G (o + (k + 1)) = some ((o, k + 1), zI (zca g 0) n f) := h.2 k n f hk
theorem zMs_putO {g : Zg} {G0 G : zHG} {o : Nat} {M M' : MT} (h : zMs g G0 G o M) (he : mar M' = mar M) : zMs g G0 (zup G o ((o, 0), zO 4 (mfs o M'))) o M' := by
  refine ⟨⟨zup_self _ _ _, fun k n f hk => ?_⟩, fun a w hw hn => ?_⟩
  · rw [zup_ne _ _ (by omega)]
    rw [he] at hk
    exact h.1.2 k n f hk
  · have h1 := h.2 a w hw hn
    rw [zup_ne]
    · exact h1
    · intro e
      subst e
      rw [h.1.1] at h1
      cases h1
      exact hn rfl
theorem zMs_putA {g : Zg} {G0 G : zHG} {o : Nat} {M M' : MT} (j : Nat) {n : Nat} {f f' : Nat → Int32} (h : zMs g G0 G o M) (hj : (mar M)[j]? = some (n, f)) (he : (mar M).set j (n, f') = mar M') (hf : mfs o M' = mfs o M) : zMs g G0 (zup G (o + (j + 1)) ((o, j + 1), zI (zca g 0) n f')) o M' := by
  have hl := (List.getElem?_eq_some_iff.mp hj).1
  refine ⟨⟨?_, fun k m e hk => ?_⟩, fun a w hw hn => ?_⟩
  · rw [zup_ne _ _ (by omega), hf]
    exact h.1.1
  · rw [← he] at hk
    by_cases hkj : k = j
    · subst hkj
      rw [List.getElem?_set_self hl] at hk
      cases hk
      exact zup_self _ _ _
    · rw [List.getElem?_set_ne (Ne.symm hkj)] at hk
      rw [zup_ne _ _ (by omega)]
      exact h.1.2 k m e hk
  · have h1 := h.2 a w hw hn
    rw [zup_ne]
    · exact h1
    · intro e
      subst e
      rw [h.1.2 j n f hj] at h1
      cases h1
      exact hn rfl
section ZModel
variable {g : Zg} {X : Zx} {own : String} {cc : ByteArray} {nL : Nat} {ret : Option FieldType} {d mc ms : Nat} {u v pc : Nat} {G0 G : zHG} {o : Nat} {M : MT} {L : List (Nat × Value)} {st : List Value}
theorem ft4_0 : zFt 4 0 .int false := ⟨RX4, TX4, 35, tyX4, rfl, tyX4_ok, nmX4, rfl, rfl⟩
theorem m_put_thrown (hX : zOk g X own cc nL ret d mc ms) (hM : zMs g G0 G o M) {idx : Nat} (hF : zFg own idx 4 0) (hdg : decode cc pc = .ok (.putfield idx, 3)) (p : Nat) (hp : pc + 3 = p) {x : Int32} (kk : ∀ G' : zHG, zMs g G0 G' o (ms_thrown M x) → ZW g X u v G' p L st) : ZW g X u v G pc L (.int x :: .ref o :: st) :=
  z_putf hX hF ft4_0 hM.1.o hdg p hp rfl rfl (show 0 < 35 by decide) (fs' := mfs o (ms_thrown M x)) rfl (kk _ (zMs_putO hM rfl))
theorem m_ald_now (hX : zOk g X own cc nL ret d mc ms) (hM : zMs g G0 G o M) (j : Nat) (hj : j < 139) (hdg : decode cc pc = .ok (.iaload, 1)) (p : Nat) (hp : pc + 1 = p) {w : Int32} (hw : mt_now M j = w) (kk : ZW g X u v G p L (.int w :: st)) : ZW g X u v G pc L (.int (nI j) :: .ref (o + 1) :: st) :=
  z_iald hX (hM.1.ar 0 (n := 139) (f := mt_now M) rfl) hdg p hp (vp_in_nI hj (by decide)) (by rw [nI_clamp (by omega)]; exact hw) kk
theorem m_ast_now (hX : zOk g X own cc nL ret d mc ms) (hM : zMs g G0 G o M) (j : Nat) (hj : j < 139) (hdg : decode cc pc = .ok (.iastore, 1)) (p : Nat) (hp : pc + 1 = p) {x : Int32} (kk : ∀ G' : zHG, zMs g G0 G' o (ms_now M (upd (mt_now M) j x)) → ZW g X u v G' p L st) : ZW g X u v G pc L (.int x :: .int (nI j) :: .ref (o + 1) :: st) :=
  z_iast hX (hM.1.ar 0 (n := 139) (f := mt_now M) rfl) hdg p hp (vp_in_nI hj (by decide)) (f' := upd (mt_now M) j x) (by rw [nI_clamp (by omega)]) (kk _ (zMs_putA 0 hM (n := 139) (f := mt_now M) (f' := upd (mt_now M) j x) rfl rfl rfl))
theorem m_ald_aside (hX : zOk g X own cc nL ret d mc ms) (hM : zMs g G0 G o M) (j : Nat) (hj : j < 139) (hdg : decode cc pc = .ok (.iaload, 1)) (p : Nat) (hp : pc + 1 = p) {w : Int32} (hw : mt_aside M j = w) (kk : ZW g X u v G p L (.int w :: st)) : ZW g X u v G pc L (.int (nI j) :: .ref (o + 2) :: st) :=
  z_iald hX (hM.1.ar 1 (n := 139) (f := mt_aside M) rfl) hdg p hp (vp_in_nI hj (by decide)) (by rw [nI_clamp (by omega)]; exact hw) kk
theorem m_ast_aside (hX : zOk g X own cc nL ret d mc ms) (hM : zMs g G0 G o M) (j : Nat) (hj : j < 139) (hdg : decode cc pc = .ok (.iastore, 1)) (p : Nat) (hp : pc + 1 = p) {x : Int32} (kk : ∀ G' : zHG, zMs g G0 G' o (ms_aside M (upd (mt_aside M) j x)) → ZW g X u v G' p L st) : ZW g X u v G pc L (.int x :: .int (nI j) :: .ref (o + 2) :: st) :=
  z_iast hX (hM.1.ar 1 (n := 139) (f := mt_aside M) rfl) hdg p hp (vp_in_nI hj (by decide)) (f' := upd (mt_aside M) j x) (by rw [nI_clamp (by omega)]) (kk _ (zMs_putA 1 hM (n := 139) (f := mt_aside M) (f' := upd (mt_aside M) j x) rfl rfl rfl))
theorem m_ald_undos (hX : zOk g X own cc nL ret d mc ms) (hM : zMs g G0 G o M) (j : Nat) (hj : j < 1668) (hdg : decode cc pc = .ok (.iaload, 1)) (p : Nat) (hp : pc + 1 = p) {w : Int32} (hw : mt_undos M j = w) (kk : ZW g X u v G p L (.int w :: st)) : ZW g X u v G pc L (.int (nI j) :: .ref (o + 3) :: st) :=
  z_iald hX (hM.1.ar 2 (n := 1668) (f := mt_undos M) rfl) hdg p hp (vp_in_nI hj (by decide)) (by rw [nI_clamp (by omega)]; exact hw) kk
theorem m_ast_undos (hX : zOk g X own cc nL ret d mc ms) (hM : zMs g G0 G o M) (j : Nat) (hj : j < 1668) (hdg : decode cc pc = .ok (.iastore, 1)) (p : Nat) (hp : pc + 1 = p) {x : Int32} (kk : ∀ G' : zHG, zMs g G0 G' o (ms_undos M (upd (mt_undos M) j x)) → ZW g X u v G' p L st) : ZW g X u v G pc L (.int x :: .int (nI j) :: .ref (o + 3) :: st) :=
  z_iast hX (hM.1.ar 2 (n := 1668) (f := mt_undos M) rfl) hdg p hp (vp_in_nI hj (by decide)) (f' := upd (mt_undos M) j x) (by rw [nI_clamp (by omega)]) (kk _ (zMs_putA 2 hM (n := 1668) (f := mt_undos M) (f' := upd (mt_undos M) j x) rfl rfl rfl))
theorem ft4_4 : zFt 4 4 .int false := ⟨RX4, TX4, 35, tyX4, rfl, tyX4_ok, nmX4, rfl, rfl⟩
theorem m_put_undoMany (hX : zOk g X own cc nL ret d mc ms) (hM : zMs g G0 G o M) {idx : Nat} (hF : zFg own idx 4 4) (hdg : decode cc pc = .ok (.putfield idx, 3)) (p : Nat) (hp : pc + 3 = p) {x : Int32} (kk : ∀ G' : zHG, zMs g G0 G' o (ms_undoMany M x) → ZW g X u v G' p L st) : ZW g X u v G pc L (.int x :: .ref o :: st) :=
  z_putf hX hF ft4_4 hM.1.o hdg p hp rfl rfl (show 4 < 35 by decide) (fs' := mfs o (ms_undoMany M x)) rfl (kk _ (zMs_putO hM rfl))
theorem m_ald_tape (hX : zOk g X own cc nL ret d mc ms) (hM : zMs g G0 G o M) (j : Nat) (hj : j < 800) (hdg : decode cc pc = .ok (.iaload, 1)) (p : Nat) (hp : pc + 1 = p) {w : Int32} (hw : mt_tape M j = w) (kk : ZW g X u v G p L (.int w :: st)) : ZW g X u v G pc L (.int (nI j) :: .ref (o + 4) :: st) :=
  z_iald hX (hM.1.ar 3 (n := 800) (f := mt_tape M) rfl) hdg p hp (vp_in_nI hj (by decide)) (by rw [nI_clamp (by omega)]; exact hw) kk
theorem m_ast_tape (hX : zOk g X own cc nL ret d mc ms) (hM : zMs g G0 G o M) (j : Nat) (hj : j < 800) (hdg : decode cc pc = .ok (.iastore, 1)) (p : Nat) (hp : pc + 1 = p) {x : Int32} (kk : ∀ G' : zHG, zMs g G0 G' o (ms_tape M (upd (mt_tape M) j x)) → ZW g X u v G' p L st) : ZW g X u v G pc L (.int x :: .int (nI j) :: .ref (o + 4) :: st) :=
  z_iast hX (hM.1.ar 3 (n := 800) (f := mt_tape M) rfl) hdg p hp (vp_in_nI hj (by decide)) (f' := upd (mt_tape M) j x) (by rw [nI_clamp (by omega)]) (kk _ (zMs_putA 3 hM (n := 800) (f := mt_tape M) (f' := upd (mt_tape M) j x) rfl rfl rfl))
theorem ft4_6 : zFt 4 6 .int false := ⟨RX4, TX4, 35, tyX4, rfl, tyX4_ok, nmX4, rfl, rfl⟩
theorem m_put_taped (hX : zOk g X own cc nL ret d mc ms) (hM : zMs g G0 G o M) {idx : Nat} (hF : zFg own idx 4 6) (hdg : decode cc pc = .ok (.putfield idx, 3)) (p : Nat) (hp : pc + 3 = p) {x : Int32} (kk : ∀ G' : zHG, zMs g G0 G' o (ms_taped M x) → ZW g X u v G' p L st) : ZW g X u v G pc L (.int x :: .ref o :: st) :=
  z_putf hX hF ft4_6 hM.1.o hdg p hp rfl rfl (show 6 < 35 by decide) (fs' := mfs o (ms_taped M x)) rfl (kk _ (zMs_putO hM rfl))
theorem ft4_7 : zFt 4 7 .int false := ⟨RX4, TX4, 35, tyX4, rfl, tyX4_ok, nmX4, rfl, rfl⟩
theorem m_put_size (hX : zOk g X own cc nL ret d mc ms) (hM : zMs g G0 G o M) {idx : Nat} (hF : zFg own idx 4 7) (hdg : decode cc pc = .ok (.putfield idx, 3)) (p : Nat) (hp : pc + 3 = p) {x : Int32} (kk : ∀ G' : zHG, zMs g G0 G' o (ms_size M x) → ZW g X u v G' p L st) : ZW g X u v G pc L (.int x :: .ref o :: st) :=
  z_putf hX hF ft4_7 hM.1.o hdg p hp rfl rfl (show 7 < 35 by decide) (fs' := mfs o (ms_size M x)) rfl (kk _ (zMs_putO hM rfl))
theorem ft4_8 : zFt 4 8 .int false := ⟨RX4, TX4, 35, tyX4, rfl, tyX4_ok, nmX4, rfl, rfl⟩
theorem m_put_at (hX : zOk g X own cc nL ret d mc ms) (hM : zMs g G0 G o M) {idx : Nat} (hF : zFg own idx 4 8) (hdg : decode cc pc = .ok (.putfield idx, 3)) (p : Nat) (hp : pc + 3 = p) {x : Int32} (kk : ∀ G' : zHG, zMs g G0 G' o (ms_at M x) → ZW g X u v G' p L st) : ZW g X u v G pc L (.int x :: .ref o :: st) :=
  z_putf hX hF ft4_8 hM.1.o hdg p hp rfl rfl (show 8 < 35 by decide) (fs' := mfs o (ms_at M x)) rfl (kk _ (zMs_putO hM rfl))
theorem ft4_9 : zFt 4 9 .int false := ⟨RX4, TX4, 35, tyX4, rfl, tyX4_ok, nmX4, rfl, rfl⟩
theorem m_put_token (hX : zOk g X own cc nL ret d mc ms) (hM : zMs g G0 G o M) {idx : Nat} (hF : zFg own idx 4 9) (hdg : decode cc pc = .ok (.putfield idx, 3)) (p : Nat) (hp : pc + 3 = p) {x : Int32} (kk : ∀ G' : zHG, zMs g G0 G' o (ms_token M x) → ZW g X u v G' p L st) : ZW g X u v G pc L (.int x :: .ref o :: st) :=
  z_putf hX hF ft4_9 hM.1.o hdg p hp rfl rfl (show 9 < 35 by decide) (fs' := mfs o (ms_token M x)) rfl (kk _ (zMs_putO hM rfl))
theorem ft4_10 : zFt 4 10 .int false := ⟨RX4, TX4, 35, tyX4, rfl, tyX4_ok, nmX4, rfl, rfl⟩
theorem m_put_from (hX : zOk g X own cc nL ret d mc ms) (hM : zMs g G0 G o M) {idx : Nat} (hF : zFg own idx 4 10) (hdg : decode cc pc = .ok (.putfield idx, 3)) (p : Nat) (hp : pc + 3 = p) {x : Int32} (kk : ∀ G' : zHG, zMs g G0 G' o (ms_from M x) → ZW g X u v G' p L st) : ZW g X u v G pc L (.int x :: .ref o :: st) :=
  z_putf hX hF ft4_10 hM.1.o hdg p hp rfl rfl (show 10 < 35 by decide) (fs' := mfs o (ms_from M x)) rfl (kk _ (zMs_putO hM rfl))
theorem ft4_11 : zFt 4 11 .int false := ⟨RX4, TX4, 35, tyX4, rfl, tyX4_ok, nmX4, rfl, rfl⟩
theorem m_put_value (hX : zOk g X own cc nL ret d mc ms) (hM : zMs g G0 G o M) {idx : Nat} (hF : zFg own idx 4 11) (hdg : decode cc pc = .ok (.putfield idx, 3)) (p : Nat) (hp : pc + 3 = p) {x : Int32} (kk : ∀ G' : zHG, zMs g G0 G' o (ms_value M x) → ZW g X u v G' p L st) : ZW g X u v G pc L (.int x :: .ref o :: st) :=
  z_putf hX hF ft4_11 hM.1.o hdg p hp rfl rfl (show 11 < 35 by decide) (fs' := mfs o (ms_value M x)) rfl (kk _ (zMs_putO hM rfl))
theorem ft4_12 : zFt 4 12 .int false := ⟨RX4, TX4, 35, tyX4, rfl, tyX4_ok, nmX4, rfl, rfl⟩
theorem m_put_fault (hX : zOk g X own cc nL ret d mc ms) (hM : zMs g G0 G o M) {idx : Nat} (hF : zFg own idx 4 12) (hdg : decode cc pc = .ok (.putfield idx, 3)) (p : Nat) (hp : pc + 3 = p) {x : Int32} (kk : ∀ G' : zHG, zMs g G0 G' o (ms_fault M x) → ZW g X u v G' p L st) : ZW g X u v G pc L (.int x :: .ref o :: st) :=
  z_putf hX hF ft4_12 hM.1.o hdg p hp rfl rfl (show 12 < 35 by decide) (fs' := mfs o (ms_fault M x)) rfl (kk _ (zMs_putO hM rfl))
theorem m_ald_sold (hX : zOk g X own cc nL ret d mc ms) (hM : zMs g G0 G o M) (j : Nat) (hj : j < 4) (hdg : decode cc pc = .ok (.iaload, 1)) (p : Nat) (hp : pc + 1 = p) {w : Int32} (hw : mt_sold M j = w) (kk : ZW g X u v G p L (.int w :: st)) : ZW g X u v G pc L (.int (nI j) :: .ref (o + 5) :: st) :=
  z_iald hX (hM.1.ar 4 (n := 4) (f := mt_sold M) rfl) hdg p hp (vp_in_nI hj (by decide)) (by rw [nI_clamp (by omega)]; exact hw) kk
theorem m_ast_sold (hX : zOk g X own cc nL ret d mc ms) (hM : zMs g G0 G o M) (j : Nat) (hj : j < 4) (hdg : decode cc pc = .ok (.iastore, 1)) (p : Nat) (hp : pc + 1 = p) {x : Int32} (kk : ∀ G' : zHG, zMs g G0 G' o (ms_sold M (upd (mt_sold M) j x)) → ZW g X u v G' p L st) : ZW g X u v G pc L (.int x :: .int (nI j) :: .ref (o + 5) :: st) :=
  z_iast hX (hM.1.ar 4 (n := 4) (f := mt_sold M) rfl) hdg p hp (vp_in_nI hj (by decide)) (f' := upd (mt_sold M) j x) (by rw [nI_clamp (by omega)]) (kk _ (zMs_putA 4 hM (n := 4) (f := mt_sold M) (f' := upd (mt_sold M) j x) rfl rfl rfl))
theorem m_ald_sells (hX : zOk g X own cc nL ret d mc ms) (hM : zMs g G0 G o M) (j : Nat) (hj : j < 4) (hdg : decode cc pc = .ok (.iaload, 1)) (p : Nat) (hp : pc + 1 = p) {w : Int32} (hw : mt_sells M j = w) (kk : ZW g X u v G p L (.int w :: st)) : ZW g X u v G pc L (.int (nI j) :: .ref (o + 6) :: st) :=
  z_iald hX (hM.1.ar 5 (n := 4) (f := mt_sells M) rfl) hdg p hp (vp_in_nI hj (by decide)) (by rw [nI_clamp (by omega)]; exact hw) kk
theorem m_ast_sells (hX : zOk g X own cc nL ret d mc ms) (hM : zMs g G0 G o M) (j : Nat) (hj : j < 4) (hdg : decode cc pc = .ok (.iastore, 1)) (p : Nat) (hp : pc + 1 = p) {x : Int32} (kk : ∀ G' : zHG, zMs g G0 G' o (ms_sells M (upd (mt_sells M) j x)) → ZW g X u v G' p L st) : ZW g X u v G pc L (.int x :: .int (nI j) :: .ref (o + 6) :: st) :=
  z_iast hX (hM.1.ar 5 (n := 4) (f := mt_sells M) rfl) hdg p hp (vp_in_nI hj (by decide)) (f' := upd (mt_sells M) j x) (by rw [nI_clamp (by omega)]) (kk _ (zMs_putA 5 hM (n := 4) (f := mt_sells M) (f' := upd (mt_sells M) j x) rfl rfl rfl))
theorem ft4_15 : zFt 4 15 .int false := ⟨RX4, TX4, 35, tyX4, rfl, tyX4_ok, nmX4, rfl, rfl⟩
theorem m_put_fallen (hX : zOk g X own cc nL ret d mc ms) (hM : zMs g G0 G o M) {idx : Nat} (hF : zFg own idx 4 15) (hdg : decode cc pc = .ok (.putfield idx, 3)) (p : Nat) (hp : pc + 3 = p) {x : Int32} (kk : ∀ G' : zHG, zMs g G0 G' o (ms_fallen M x) → ZW g X u v G' p L st) : ZW g X u v G pc L (.int x :: .ref o :: st) :=
  z_putf hX hF ft4_15 hM.1.o hdg p hp rfl rfl (show 15 < 35 by decide) (fs' := mfs o (ms_fallen M x)) rfl (kk _ (zMs_putO hM rfl))
theorem ft4_16 : zFt 4 16 .int false := ⟨RX4, TX4, 35, tyX4, rfl, tyX4_ok, nmX4, rfl, rfl⟩
theorem m_put_willFall (hX : zOk g X own cc nL ret d mc ms) (hM : zMs g G0 G o M) {idx : Nat} (hF : zFg own idx 4 16) (hdg : decode cc pc = .ok (.putfield idx, 3)) (p : Nat) (hp : pc + 3 = p) {x : Int32} (kk : ∀ G' : zHG, zMs g G0 G' o (ms_willFall M x) → ZW g X u v G' p L st) : ZW g X u v G pc L (.int x :: .ref o :: st) :=
  z_putf hX hF ft4_16 hM.1.o hdg p hp rfl rfl (show 16 < 35 by decide) (fs' := mfs o (ms_willFall M x)) rfl (kk _ (zMs_putO hM rfl))
theorem ft4_17 : zFt 4 17 .int false := ⟨RX4, TX4, 35, tyX4, rfl, tyX4_ok, nmX4, rfl, rfl⟩
theorem m_put_rounds (hX : zOk g X own cc nL ret d mc ms) (hM : zMs g G0 G o M) {idx : Nat} (hF : zFg own idx 4 17) (hdg : decode cc pc = .ok (.putfield idx, 3)) (p : Nat) (hp : pc + 3 = p) {x : Int32} (kk : ∀ G' : zHG, zMs g G0 G' o (ms_rounds M x) → ZW g X u v G' p L st) : ZW g X u v G pc L (.int x :: .ref o :: st) :=
  z_putf hX hF ft4_17 hM.1.o hdg p hp rfl rfl (show 17 < 35 by decide) (fs' := mfs o (ms_rounds M x)) rfl (kk _ (zMs_putO hM rfl))
theorem m_ald_coins (hX : zOk g X own cc nL ret d mc ms) (hM : zMs g G0 G o M) (j : Nat) (hj : j < 6) (hdg : decode cc pc = .ok (.iaload, 1)) (p : Nat) (hp : pc + 1 = p) {w : Int32} (hw : mt_coins M j = w) (kk : ZW g X u v G p L (.int w :: st)) : ZW g X u v G pc L (.int (nI j) :: .ref (o + 7) :: st) :=
  z_iald hX (hM.1.ar 6 (n := 6) (f := mt_coins M) rfl) hdg p hp (vp_in_nI hj (by decide)) (by rw [nI_clamp (by omega)]; exact hw) kk
theorem m_ast_coins (hX : zOk g X own cc nL ret d mc ms) (hM : zMs g G0 G o M) (j : Nat) (hj : j < 6) (hdg : decode cc pc = .ok (.iastore, 1)) (p : Nat) (hp : pc + 1 = p) {x : Int32} (kk : ∀ G' : zHG, zMs g G0 G' o (ms_coins M (upd (mt_coins M) j x)) → ZW g X u v G' p L st) : ZW g X u v G pc L (.int x :: .int (nI j) :: .ref (o + 7) :: st) :=
  z_iast hX (hM.1.ar 6 (n := 6) (f := mt_coins M) rfl) hdg p hp (vp_in_nI hj (by decide)) (f' := upd (mt_coins M) j x) (by rw [nI_clamp (by omega)]) (kk _ (zMs_putA 6 hM (n := 6) (f := mt_coins M) (f' := upd (mt_coins M) j x) rfl rfl rfl))
theorem ft4_19 : zFt 4 19 .int false := ⟨RX4, TX4, 35, tyX4, rfl, tyX4_ok, nmX4, rfl, rfl⟩
theorem m_put_extraOf (hX : zOk g X own cc nL ret d mc ms) (hM : zMs g G0 G o M) {idx : Nat} (hF : zFg own idx 4 19) (hdg : decode cc pc = .ok (.putfield idx, 3)) (p : Nat) (hp : pc + 3 = p) {x : Int32} (kk : ∀ G' : zHG, zMs g G0 G' o (ms_extraOf M x) → ZW g X u v G' p L st) : ZW g X u v G pc L (.int x :: .ref o :: st) :=
  z_putf hX hF ft4_19 hM.1.o hdg p hp rfl rfl (show 19 < 35 by decide) (fs' := mfs o (ms_extraOf M x)) rfl (kk _ (zMs_putO hM rfl))
theorem ft4_20 : zFt 4 20 .int false := ⟨RX4, TX4, 35, tyX4, rfl, tyX4_ok, nmX4, rfl, rfl⟩
theorem m_put_extraCap (hX : zOk g X own cc nL ret d mc ms) (hM : zMs g G0 G o M) {idx : Nat} (hF : zFg own idx 4 20) (hdg : decode cc pc = .ok (.putfield idx, 3)) (p : Nat) (hp : pc + 3 = p) {x : Int32} (kk : ∀ G' : zHG, zMs g G0 G' o (ms_extraCap M x) → ZW g X u v G' p L st) : ZW g X u v G pc L (.int x :: .ref o :: st) :=
  z_putf hX hF ft4_20 hM.1.o hdg p hp rfl rfl (show 20 < 35 by decide) (fs' := mfs o (ms_extraCap M x)) rfl (kk _ (zMs_putO hM rfl))
theorem ft4_21 : zFt 4 21 .int false := ⟨RX4, TX4, 35, tyX4, rfl, tyX4_ok, nmX4, rfl, rfl⟩
theorem m_put_extraShock (hX : zOk g X own cc nL ret d mc ms) (hM : zMs g G0 G o M) {idx : Nat} (hF : zFg own idx 4 21) (hdg : decode cc pc = .ok (.putfield idx, 3)) (p : Nat) (hp : pc + 3 = p) {x : Int32} (kk : ∀ G' : zHG, zMs g G0 G' o (ms_extraShock M x) → ZW g X u v G' p L st) : ZW g X u v G pc L (.int x :: .ref o :: st) :=
  z_putf hX hF ft4_21 hM.1.o hdg p hp rfl rfl (show 21 < 35 by decide) (fs' := mfs o (ms_extraShock M x)) rfl (kk _ (zMs_putO hM rfl))
theorem ft4_22 : zFt 4 22 .int false := ⟨RX4, TX4, 35, tyX4, rfl, tyX4_ok, nmX4, rfl, rfl⟩
theorem m_put_buyerOf (hX : zOk g X own cc nL ret d mc ms) (hM : zMs g G0 G o M) {idx : Nat} (hF : zFg own idx 4 22) (hdg : decode cc pc = .ok (.putfield idx, 3)) (p : Nat) (hp : pc + 3 = p) {x : Int32} (kk : ∀ G' : zHG, zMs g G0 G' o (ms_buyerOf M x) → ZW g X u v G' p L st) : ZW g X u v G pc L (.int x :: .ref o :: st) :=
  z_putf hX hF ft4_22 hM.1.o hdg p hp rfl rfl (show 22 < 35 by decide) (fs' := mfs o (ms_buyerOf M x)) rfl (kk _ (zMs_putO hM rfl))
theorem ft4_23 : zFt 4 23 .int false := ⟨RX4, TX4, 35, tyX4, rfl, tyX4_ok, nmX4, rfl, rfl⟩
theorem m_put_buys (hX : zOk g X own cc nL ret d mc ms) (hM : zMs g G0 G o M) {idx : Nat} (hF : zFg own idx 4 23) (hdg : decode cc pc = .ok (.putfield idx, 3)) (p : Nat) (hp : pc + 3 = p) {x : Int32} (kk : ∀ G' : zHG, zMs g G0 G' o (ms_buys M x) → ZW g X u v G' p L st) : ZW g X u v G pc L (.int x :: .ref o :: st) :=
  z_putf hX hF ft4_23 hM.1.o hdg p hp rfl rfl (show 23 < 35 by decide) (fs' := mfs o (ms_buys M x)) rfl (kk _ (zMs_putO hM rfl))
theorem ft4_24 : zFt 4 24 .int false := ⟨RX4, TX4, 35, tyX4, rfl, tyX4_ok, nmX4, rfl, rfl⟩
theorem m_put_part (hX : zOk g X own cc nL ret d mc ms) (hM : zMs g G0 G o M) {idx : Nat} (hF : zFg own idx 4 24) (hdg : decode cc pc = .ok (.putfield idx, 3)) (p : Nat) (hp : pc + 3 = p) {x : Int32} (kk : ∀ G' : zHG, zMs g G0 G' o (ms_part M x) → ZW g X u v G' p L st) : ZW g X u v G pc L (.int x :: .ref o :: st) :=
  z_putf hX hF ft4_24 hM.1.o hdg p hp rfl rfl (show 24 < 35 by decide) (fs' := mfs o (ms_part M x)) rfl (kk _ (zMs_putO hM rfl))
theorem ft4_25 : zFt 4 25 .int false := ⟨RX4, TX4, 35, tyX4, rfl, tyX4_ok, nmX4, rfl, rfl⟩
theorem m_put_forced (hX : zOk g X own cc nL ret d mc ms) (hM : zMs g G0 G o M) {idx : Nat} (hF : zFg own idx 4 25) (hdg : decode cc pc = .ok (.putfield idx, 3)) (p : Nat) (hp : pc + 3 = p) {x : Int32} (kk : ∀ G' : zHG, zMs g G0 G' o (ms_forced M x) → ZW g X u v G' p L st) : ZW g X u v G pc L (.int x :: .ref o :: st) :=
  z_putf hX hF ft4_25 hM.1.o hdg p hp rfl rfl (show 25 < 35 by decide) (fs' := mfs o (ms_forced M x)) rfl (kk _ (zMs_putO hM rfl))
theorem m_ald_left (hX : zOk g X own cc nL ret d mc ms) (hM : zMs g G0 G o M) (j : Nat) (hj : j < 4) (hdg : decode cc pc = .ok (.iaload, 1)) (p : Nat) (hp : pc + 1 = p) {w : Int32} (hw : mt_left M j = w) (kk : ZW g X u v G p L (.int w :: st)) : ZW g X u v G pc L (.int (nI j) :: .ref (o + 8) :: st) :=
  z_iald hX (hM.1.ar 7 (n := 4) (f := mt_left M) rfl) hdg p hp (vp_in_nI hj (by decide)) (by rw [nI_clamp (by omega)]; exact hw) kk
theorem m_ast_left (hX : zOk g X own cc nL ret d mc ms) (hM : zMs g G0 G o M) (j : Nat) (hj : j < 4) (hdg : decode cc pc = .ok (.iastore, 1)) (p : Nat) (hp : pc + 1 = p) {x : Int32} (kk : ∀ G' : zHG, zMs g G0 G' o (ms_left M (upd (mt_left M) j x)) → ZW g X u v G' p L st) : ZW g X u v G pc L (.int x :: .int (nI j) :: .ref (o + 8) :: st) :=
  z_iast hX (hM.1.ar 7 (n := 4) (f := mt_left M) rfl) hdg p hp (vp_in_nI hj (by decide)) (f' := upd (mt_left M) j x) (by rw [nI_clamp (by omega)]) (kk _ (zMs_putA 7 hM (n := 4) (f := mt_left M) (f' := upd (mt_left M) j x) rfl rfl rfl))
theorem m_ald_prices (hX : zOk g X own cc nL ret d mc ms) (hM : zMs g G0 G o M) (j : Nat) (hj : j < 4) (hdg : decode cc pc = .ok (.iaload, 1)) (p : Nat) (hp : pc + 1 = p) {w : Int32} (hw : mt_prices M j = w) (kk : ZW g X u v G p L (.int w :: st)) : ZW g X u v G pc L (.int (nI j) :: .ref (o + 9) :: st) :=
  z_iald hX (hM.1.ar 8 (n := 4) (f := mt_prices M) rfl) hdg p hp (vp_in_nI hj (by decide)) (by rw [nI_clamp (by omega)]; exact hw) kk
theorem m_ast_prices (hX : zOk g X own cc nL ret d mc ms) (hM : zMs g G0 G o M) (j : Nat) (hj : j < 4) (hdg : decode cc pc = .ok (.iastore, 1)) (p : Nat) (hp : pc + 1 = p) {x : Int32} (kk : ∀ G' : zHG, zMs g G0 G' o (ms_prices M (upd (mt_prices M) j x)) → ZW g X u v G' p L st) : ZW g X u v G pc L (.int x :: .int (nI j) :: .ref (o + 9) :: st) :=
  z_iast hX (hM.1.ar 8 (n := 4) (f := mt_prices M) rfl) hdg p hp (vp_in_nI hj (by decide)) (f' := upd (mt_prices M) j x) (by rw [nI_clamp (by omega)]) (kk _ (zMs_putA 8 hM (n := 4) (f := mt_prices M) (f' := upd (mt_prices M) j x) rfl rfl rfl))
theorem m_ald_musts (hX : zOk g X own cc nL ret d mc ms) (hM : zMs g G0 G o M) (j : Nat) (hj : j < 24) (hdg : decode cc pc = .ok (.iaload, 1)) (p : Nat) (hp : pc + 1 = p) {w : Int32} (hw : mt_musts M j = w) (kk : ZW g X u v G p L (.int w :: st)) : ZW g X u v G pc L (.int (nI j) :: .ref (o + 10) :: st) :=
  z_iald hX (hM.1.ar 9 (n := 24) (f := mt_musts M) rfl) hdg p hp (vp_in_nI hj (by decide)) (by rw [nI_clamp (by omega)]; exact hw) kk
theorem m_ast_musts (hX : zOk g X own cc nL ret d mc ms) (hM : zMs g G0 G o M) (j : Nat) (hj : j < 24) (hdg : decode cc pc = .ok (.iastore, 1)) (p : Nat) (hp : pc + 1 = p) {x : Int32} (kk : ∀ G' : zHG, zMs g G0 G' o (ms_musts M (upd (mt_musts M) j x)) → ZW g X u v G' p L st) : ZW g X u v G pc L (.int x :: .int (nI j) :: .ref (o + 10) :: st) :=
  z_iast hX (hM.1.ar 9 (n := 24) (f := mt_musts M) rfl) hdg p hp (vp_in_nI hj (by decide)) (f' := upd (mt_musts M) j x) (by rw [nI_clamp (by omega)]) (kk _ (zMs_putA 9 hM (n := 24) (f := mt_musts M) (f' := upd (mt_musts M) j x) rfl rfl rfl))
theorem m_ald_fell (hX : zOk g X own cc nL ret d mc ms) (hM : zMs g G0 G o M) (j : Nat) (hj : j < 6) (hdg : decode cc pc = .ok (.iaload, 1)) (p : Nat) (hp : pc + 1 = p) {w : Int32} (hw : mt_fell M j = w) (kk : ZW g X u v G p L (.int w :: st)) : ZW g X u v G pc L (.int (nI j) :: .ref (o + 11) :: st) :=
  z_iald hX (hM.1.ar 10 (n := 6) (f := mt_fell M) rfl) hdg p hp (vp_in_nI hj (by decide)) (by rw [nI_clamp (by omega)]; exact hw) kk
theorem m_ast_fell (hX : zOk g X own cc nL ret d mc ms) (hM : zMs g G0 G o M) (j : Nat) (hj : j < 6) (hdg : decode cc pc = .ok (.iastore, 1)) (p : Nat) (hp : pc + 1 = p) {x : Int32} (kk : ∀ G' : zHG, zMs g G0 G' o (ms_fell M (upd (mt_fell M) j x)) → ZW g X u v G' p L st) : ZW g X u v G pc L (.int x :: .int (nI j) :: .ref (o + 11) :: st) :=
  z_iast hX (hM.1.ar 10 (n := 6) (f := mt_fell M) rfl) hdg p hp (vp_in_nI hj (by decide)) (f' := upd (mt_fell M) j x) (by rw [nI_clamp (by omega)]) (kk _ (zMs_putA 10 hM (n := 6) (f := mt_fell M) (f' := upd (mt_fell M) j x) rfl rfl rfl))
theorem ft4_30 : zFt 4 30 .int false := ⟨RX4, TX4, 35, tyX4, rfl, tyX4_ok, nmX4, rfl, rfl⟩
theorem m_put_leastLost (hX : zOk g X own cc nL ret d mc ms) (hM : zMs g G0 G o M) {idx : Nat} (hF : zFg own idx 4 30) (hdg : decode cc pc = .ok (.putfield idx, 3)) (p : Nat) (hp : pc + 3 = p) {x : Int32} (kk : ∀ G' : zHG, zMs g G0 G' o (ms_leastLost M x) → ZW g X u v G' p L st) : ZW g X u v G pc L (.int x :: .ref o :: st) :=
  z_putf hX hF ft4_30 hM.1.o hdg p hp rfl rfl (show 30 < 35 by decide) (fs' := mfs o (ms_leastLost M x)) rfl (kk _ (zMs_putO hM rfl))
theorem m_ald_gifts (hX : zOk g X own cc nL ret d mc ms) (hM : zMs g G0 G o M) (j : Nat) (hj : j < 6) (hdg : decode cc pc = .ok (.iaload, 1)) (p : Nat) (hp : pc + 1 = p) {w : Int32} (hw : mt_gifts M j = w) (kk : ZW g X u v G p L (.int w :: st)) : ZW g X u v G pc L (.int (nI j) :: .ref (o + 12) :: st) :=
  z_iald hX (hM.1.ar 11 (n := 6) (f := mt_gifts M) rfl) hdg p hp (vp_in_nI hj (by decide)) (by rw [nI_clamp (by omega)]; exact hw) kk
theorem m_ast_gifts (hX : zOk g X own cc nL ret d mc ms) (hM : zMs g G0 G o M) (j : Nat) (hj : j < 6) (hdg : decode cc pc = .ok (.iastore, 1)) (p : Nat) (hp : pc + 1 = p) {x : Int32} (kk : ∀ G' : zHG, zMs g G0 G' o (ms_gifts M (upd (mt_gifts M) j x)) → ZW g X u v G' p L st) : ZW g X u v G pc L (.int x :: .int (nI j) :: .ref (o + 12) :: st) :=
  z_iast hX (hM.1.ar 11 (n := 6) (f := mt_gifts M) rfl) hdg p hp (vp_in_nI hj (by decide)) (f' := upd (mt_gifts M) j x) (by rw [nI_clamp (by omega)]) (kk _ (zMs_putA 11 hM (n := 6) (f := mt_gifts M) (f' := upd (mt_gifts M) j x) rfl rfl rfl))
theorem m_ald_bestGifts (hX : zOk g X own cc nL ret d mc ms) (hM : zMs g G0 G o M) (j : Nat) (hj : j < 6) (hdg : decode cc pc = .ok (.iaload, 1)) (p : Nat) (hp : pc + 1 = p) {w : Int32} (hw : mt_bestGifts M j = w) (kk : ZW g X u v G p L (.int w :: st)) : ZW g X u v G pc L (.int (nI j) :: .ref (o + 13) :: st) :=
  z_iald hX (hM.1.ar 12 (n := 6) (f := mt_bestGifts M) rfl) hdg p hp (vp_in_nI hj (by decide)) (by rw [nI_clamp (by omega)]; exact hw) kk
theorem m_ast_bestGifts (hX : zOk g X own cc nL ret d mc ms) (hM : zMs g G0 G o M) (j : Nat) (hj : j < 6) (hdg : decode cc pc = .ok (.iastore, 1)) (p : Nat) (hp : pc + 1 = p) {x : Int32} (kk : ∀ G' : zHG, zMs g G0 G' o (ms_bestGifts M (upd (mt_bestGifts M) j x)) → ZW g X u v G' p L st) : ZW g X u v G pc L (.int x :: .int (nI j) :: .ref (o + 13) :: st) :=
  z_iast hX (hM.1.ar 12 (n := 6) (f := mt_bestGifts M) rfl) hdg p hp (vp_in_nI hj (by decide)) (f' := upd (mt_bestGifts M) j x) (by rw [nI_clamp (by omega)]) (kk _ (zMs_putA 12 hM (n := 6) (f := mt_bestGifts M) (f' := upd (mt_bestGifts M) j x) rfl rfl rfl))
theorem m_ald_spelt (hX : zOk g X own cc nL ret d mc ms) (hM : zMs g G0 G o M) (j : Nat) (hj : j < 1200) (hdg : decode cc pc = .ok (.iaload, 1)) (p : Nat) (hp : pc + 1 = p) {w : Int32} (hw : mt_spelt M j = w) (kk : ZW g X u v G p L (.int w :: st)) : ZW g X u v G pc L (.int (nI j) :: .ref (o + 14) :: st) :=
  z_iald hX (hM.1.ar 13 (n := 1200) (f := mt_spelt M) rfl) hdg p hp (vp_in_nI hj (by decide)) (by rw [nI_clamp (by omega)]; exact hw) kk
theorem m_ast_spelt (hX : zOk g X own cc nL ret d mc ms) (hM : zMs g G0 G o M) (j : Nat) (hj : j < 1200) (hdg : decode cc pc = .ok (.iastore, 1)) (p : Nat) (hp : pc + 1 = p) {x : Int32} (kk : ∀ G' : zHG, zMs g G0 G' o (ms_spelt M (upd (mt_spelt M) j x)) → ZW g X u v G' p L st) : ZW g X u v G pc L (.int x :: .int (nI j) :: .ref (o + 14) :: st) :=
  z_iast hX (hM.1.ar 13 (n := 1200) (f := mt_spelt M) rfl) hdg p hp (vp_in_nI hj (by decide)) (f' := upd (mt_spelt M) j x) (by rw [nI_clamp (by omega)]) (kk _ (zMs_putA 13 hM (n := 1200) (f := mt_spelt M) (f' := upd (mt_spelt M) j x) rfl rfl rfl))
theorem ft4_34 : zFt 4 34 .int false := ⟨RX4, TX4, 35, tyX4, rfl, tyX4_ok, nmX4, rfl, rfl⟩
theorem m_put_speltMany (hX : zOk g X own cc nL ret d mc ms) (hM : zMs g G0 G o M) {idx : Nat} (hF : zFg own idx 4 34) (hdg : decode cc pc = .ok (.putfield idx, 3)) (p : Nat) (hp : pc + 3 = p) {x : Int32} (kk : ∀ G' : zHG, zMs g G0 G' o (ms_speltMany M x) → ZW g X u v G' p L st) : ZW g X u v G pc L (.int x :: .ref o :: st) :=
  z_putf hX hF ft4_34 hM.1.o hdg p hp rfl rfl (show 34 < 35 by decide) (fs' := mfs o (ms_speltMany M x)) rfl (kk _ (zMs_putO hM rfl))
end ZModel
