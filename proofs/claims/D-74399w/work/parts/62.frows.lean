set_option maxRecDepth 100000
/-! FROWS: rows on State, Town, arrays of ints -/
theorem ft0_0 : zFt 0 0 (.object "FireSale$Town") false := ⟨RX0, TX0, 6, tyX0, rfl, tyX0_ok, nmX0, rfl, rfl⟩
theorem ft0_1 : zFt 0 1 (.object "java/util/ArrayDeque") true := ⟨RX0, TX0, 6, tyX0, rfl, tyX0_ok, nmX0, rfl, rfl⟩
theorem ft0_2 : zFt 0 2 (.array .int) false := ⟨RX0, TX0, 6, tyX0, rfl, tyX0_ok, nmX0, rfl, rfl⟩
theorem ft0_3 : zFt 0 3 (.int) false := ⟨RX0, TX0, 6, tyX0, rfl, tyX0_ok, nmX0, rfl, rfl⟩
theorem ft0_4 : zFt 0 4 (.array .byte) true := ⟨RX0, TX0, 6, tyX0, rfl, tyX0_ok, nmX0, rfl, rfl⟩
theorem ft0_5 : zFt 0 5 (.int) false := ⟨RX0, TX0, 6, tyX0, rfl, tyX0_ok, nmX0, rfl, rfl⟩
theorem ft1_0 : zFt 1 0 (.int) false := ⟨RX1, TX1, 15, tyX1, rfl, tyX1_ok, nmX1, rfl, rfl⟩
theorem ft1_1 : zFt 1 1 (.int) false := ⟨RX1, TX1, 15, tyX1, rfl, tyX1_ok, nmX1, rfl, rfl⟩
theorem ft1_2 : zFt 1 2 (.array (.array .int)) false := ⟨RX1, TX1, 15, tyX1, rfl, tyX1_ok, nmX1, rfl, rfl⟩
theorem ft1_3 : zFt 1 3 (.array (.array .int)) false := ⟨RX1, TX1, 15, tyX1, rfl, tyX1_ok, nmX1, rfl, rfl⟩
theorem ft1_4 : zFt 1 4 (.array (.array .int)) false := ⟨RX1, TX1, 15, tyX1, rfl, tyX1_ok, nmX1, rfl, rfl⟩
theorem ft1_5 : zFt 1 5 (.array (.array .int)) false := ⟨RX1, TX1, 15, tyX1, rfl, tyX1_ok, nmX1, rfl, rfl⟩
theorem ft1_6 : zFt 1 6 (.array (.object "FireSale$Shelf")) false := ⟨RX1, TX1, 15, tyX1, rfl, tyX1_ok, nmX1, rfl, rfl⟩
theorem ft1_7 : zFt 1 7 (.int) false := ⟨RX1, TX1, 15, tyX1, rfl, tyX1_ok, nmX1, rfl, rfl⟩
theorem ft1_8 : zFt 1 8 (.array .int) false := ⟨RX1, TX1, 15, tyX1, rfl, tyX1_ok, nmX1, rfl, rfl⟩
theorem ft1_9 : zFt 1 9 (.array .int) false := ⟨RX1, TX1, 15, tyX1, rfl, tyX1_ok, nmX1, rfl, rfl⟩
theorem ft1_10 : zFt 1 10 (.array .int) false := ⟨RX1, TX1, 15, tyX1, rfl, tyX1_ok, nmX1, rfl, rfl⟩
theorem ft1_11 : zFt 1 11 (.object "FireSale$State") true := ⟨RX1, TX1, 15, tyX1, rfl, tyX1_ok, nmX1, rfl, rfl⟩
theorem ft1_12 : zFt 1 12 (.object "FireSale$State") true := ⟨RX1, TX1, 15, tyX1, rfl, tyX1_ok, nmX1, rfl, rfl⟩
theorem ft1_13 : zFt 1 13 (.array .int) true := ⟨RX1, TX1, 15, tyX1, rfl, tyX1_ok, nmX1, rfl, rfl⟩
theorem ft1_14 : zFt 1 14 (.int) false := ⟨RX1, TX1, 15, tyX1, rfl, tyX1_ok, nmX1, rfl, rfl⟩
theorem ft2_0 : zFt 2 0 (.array (.object "FireSale$Rule")) false := ⟨RX2, TX2, 2, tyX2, rfl, tyX2_ok, nmX2, rfl, rfl⟩
theorem ft2_1 : zFt 2 1 (.int) false := ⟨RX2, TX2, 2, tyX2, rfl, tyX2_ok, nmX2, rfl, rfl⟩
theorem ft3_0 : zFt 3 0 (.array .int) false := ⟨RX3, TX3, 2, tyX3, rfl, tyX3_ok, nmX3, rfl, rfl⟩
theorem ft3_1 : zFt 3 1 (.int) false := ⟨RX3, TX3, 2, tyX3, rfl, tyX3_ok, nmX3, rfl, rfl⟩
theorem ft5_0 : zFt 5 0 (.object "FireSale$Town") true := ⟨RX5, TX5, 5, tyX5, rfl, tyX5_ok, nmX5, rfl, rfl⟩
theorem ft5_1 : zFt 5 1 (.int) false := ⟨RX5, TX5, 5, tyX5, rfl, tyX5_ok, nmX5, rfl, rfl⟩
theorem ft5_2 : zFt 5 2 (.int) false := ⟨RX5, TX5, 5, tyX5, rfl, tyX5_ok, nmX5, rfl, rfl⟩
theorem ft5_3 : zFt 5 3 (.boolean) false := ⟨RX5, TX5, 5, tyX5, rfl, tyX5_ok, nmX5, rfl, rfl⟩
theorem ft5_4 : zFt 5 4 (.object "FireSale") true := ⟨RX5, TX5, 5, tyX5, rfl, tyX5_ok, nmX5, rfl, rfl⟩
theorem ft7_0 : zFt 7 0 (.int) true := ⟨RX8, TX8, 2, tyX8, rfl, tyX8_ok, nmX8, rfl, rfl⟩
theorem ft7_1 : zFt 7 1 (.int) true := ⟨RX8, TX8, 2, tyX8, rfl, tyX8_ok, nmX8, rfl, rfl⟩
theorem ft8_0 : zFt 8 0 (.int) true := ⟨RX9, TX9, 2, tyX9, rfl, tyX9_ok, nmX9, rfl, rfl⟩
theorem ft8_1 : zFt 8 1 (.int) true := ⟨RX9, TX9, 2, tyX9, rfl, tyX9_ok, nmX9, rfl, rfl⟩
theorem z_inN {j n : Nat} (hj : j < n) (hn : n < 2147483648) : vp_in (nI j) n := fun h => by
  rcases h with h | h
  · have h0 := Int32.lt_iff_toInt_lt.mp h
    rw [nI_toInt (by omega)] at h0
    have : (0 : Int32).toInt = 0 := by decide
    omega
  · rw [nI_clamp (by omega)] at h
    omega
section ZFRows
variable {g : Zg} {X : Zx} {own : String} {cc : ByteArray} {nL : Nat} {ret : Option FieldType} {d mc ms : Nat} {u v pc : Nat} {G : zHG} {L : List (Nat × Value)} {st : List Value}
theorem z_aaldF (hX : zOk g X own cc nL ret d mc ms) {a n j w : Nat} {lb : Nat × Nat} {c : ClassId} {f : Nat → Option Nat} (t0 : Nat) {ty : FieldType} (ht : (ztys g)[t0]? = some (c, ty)) (hrt : ty.isReference = true) (hg : G a = some (lb, zR c n f)) (hj : j < n) (hn : n < 2147483648) (hf : f j = some w) (hdg : decode cc pc = .ok (.aaload, 1)) (p : Nat) (hp : pc + 1 = p) (kk : ZW g X u v G p L (.ref w :: st)) : ZW g X u v G pc L (.int (nI j) :: .ref a :: st) :=
  z_aald hX t0 ht hrt hg hdg p hp (z_inN hj hn) (x := .ref w) (by rw [nI_clamp (by omega), hf]; rfl) kk
theorem z_ialdF (hX : zOk g X own cc nL ret d mc ms) {a n j : Nat} {lb : Nat × Nat} {f : Nat → Int32} {w : Int32} (hA : zAr G a lb (zca g 0) n f) (hj : j < n) (hn : n < 2147483648) (hdg : decode cc pc = .ok (.iaload, 1)) (p : Nat) (hp : pc + 1 = p) (hw : f j = w) (kk : ZW g X u v G p L (.int w :: st)) : ZW g X u v G pc L (.int (nI j) :: .ref a :: st) := by
  obtain ⟨f', h1, h2⟩ := hA
  exact z_iald hX h1 hdg p hp (z_inN hj hn) (by rw [nI_clamp (by omega), h2 j hj]; exact hw) kk
theorem z_alenF (hX : zOk g X own cc nL ret d mc ms) {a n : Nat} {lb : Nat × Nat} {f : Nat → Int32} (hA : zAr G a lb (zca g 0) n f) (hdg : decode cc pc = .ok (.arraylength, 1)) (p : Nat) (hp : pc + 1 = p) (kk : ZW g X u v G p L (.int (nI n) :: st)) : ZW g X u v G pc L (.ref a :: st) := by
  obtain ⟨f', h1, h2⟩ := hA
  exact z_alen hX 0 rfl h1 hdg p hp rfl kk
theorem z_alenR (hX : zOk g X own cc nL ret d mc ms) {a n : Nat} {lb : Nat × Nat} {c : ClassId} {f : Nat → Option Nat} (t0 : Nat) {ty : FieldType} (ht : (ztys g)[t0]? = some (c, ty)) (hg : G a = some (lb, zR c n f)) (hdg : decode cc pc = .ok (.arraylength, 1)) (p : Nat) (hp : pc + 1 = p) (kk : ZW g X u v G p L (.int (nI n) :: st)) : ZW g X u v G pc L (.ref a :: st) :=
  z_alen hX t0 ht hg hdg p hp rfl kk
theorem zupF {f f' : Nat → Int32} {j n : Nat} {x : Int32} (h : ∀ i, i < n → f' i = f i) : ∀ i, i < n → upd f' j x i = upd f j x i := fun i hi => by
  unfold upd
  split
  · rfl
  · exact h i hi
/-- a number that is no cell's owner -/
def zFresh (G : zHG) (n : Nat) : Prop := ∀ (a : Nat) (lb : Nat × Nat) (e : va_E), G a = some (lb, e) → lb.1 ≠ n
theorem z_fresh (k : ∀ n, zFresh G n → ZW g X u v G pc L st) : ZW g X u v G pc L st := by
  intro H locs ls cs ss hR hS hu hv hL
  have hn : ∃ n, zFresh G n := by
    obtain ⟨ws, _, _, h3⟩ := hR
    have key : ∀ l : va_W, ∃ n : Nat, ∀ (a : Nat) (lb : Nat × Nat) (e : va_E), G a = some (lb, e) → (a, e) ∈ l → lb.1 < n := by
      intro l
      induction l with
      | nil => exact ⟨0, fun _ _ _ _ h => by cases h⟩
      | cons x t ih =>
        obtain ⟨n, hn⟩ := ih
        cases hx : G x.1 with
        | none =>
          refine ⟨n, fun a lb e ha hm => ?_⟩
          rcases List.mem_cons.mp hm with z | z
          · subst z; rw [hx] at ha; cases ha
          · exact hn a lb e ha z
        | some w =>
          refine ⟨n + w.1.1 + 1, fun a lb e ha hm => ?_⟩
          rcases List.mem_cons.mp hm with z | z
          · subst z; rw [hx] at ha; cases ha; show lb.1 < n + lb.1 + 1; omega
          · have := hn a lb e ha z; omega
    obtain ⟨n, hn⟩ := key ws
    exact ⟨n, fun a lb e ha z => by have := hn a lb e ha (h3 a _ ha); omega⟩
  obtain ⟨n, hn⟩ := hn
  exact k n hn H locs ls cs ss hR hS hu hv hL
theorem zFresh.of {ks : List (Nat × Nat)} {G0 G1 : zHG} {n : Nat} (h : zFrK ks G0 G1) (hn : zFresh G1 n) (hk : ∀ κ ∈ ks, κ.1 ≠ n) : zFresh G0 n := fun a lb e ha z => by
  by_cases hm : zKy lb ∈ ks
  · exact hk _ hm z
  · exact hn a lb e (h a lb e ha (Or.inr hm)) z
/-- writes to what is new don't count -/
theorem zFrK.stepF {ks : List (Nat × Nat)} {G0 G G' : zHG} {n i : Nat} (h : zFrK ks G0 G) (hf : zFrK [(n, i)] G G') (hn : zFresh G0 n) : zFrK ks G0 G' := fun a lb e h1 h2 => hf a lb e (h a lb e h1 h2) (h2.imp_right (fun _ z => hn a lb e h1 (Prod.mk.inj (List.mem_singleton.mp z)).1))
theorem zFrK.step {ks : List (Nat × Nat)} {G0 G G' : zHG} {κ : Nat × Nat} (h : zFrK ks G0 G) (hf : zFrK [κ] G G') (hm : κ ∈ ks) : zFrK ks G0 G' := h.tr (hf.mono (fun κ' hk => by rw [List.mem_singleton.mp hk]; exact hm))
theorem s_ast_sold (hX : zOk g X own cc nL ret d mc ms) {κ : Nat × Nat} {s b : Nat} {sold : Nat → Int32} {fallen x : Int32} (hS : zSt g G κ s b sold fallen) (h9 : ¬ κ.2 = 9) (j : Nat) (hj : j < 4) (hdg : decode cc pc = .ok (.iastore, 1)) (p : Nat) (hp : pc + 1 = p) (kk : ∀ G', zSt g G' κ s b (upd sold j x) fallen → zFrK [κ] G G' → ZW g X u v G' p L st) : ZW g X u v G pc L (.int x :: .int (nI j) :: .ref b :: st) := by
  obtain ⟨f0, ha, hf0⟩ := hS.2
  exact z_iast hX ha hdg p hp (z_inN hj (by decide)) (f' := upd f0 j x) (by rw [nI_clamp (by omega)]) (kk _ (zSt_putS hS (zupF hf0)) (zup_fr ha (zkyS κ 1 (by decide)) h9))
theorem s_put_fallen (hX : zOk g X own cc nL ret d mc ms) {κ : Nat × Nat} {s b idx : Nat} {sold : Nat → Int32} {fallen x : Int32} (hS : zSt g G κ s b sold fallen) (h9 : ¬ κ.2 = 9) (hF : zFg own idx 3 1) (hdg : decode cc pc = .ok (.putfield idx, 3)) (p : Nat) (hp : pc + 3 = p) (kk : ∀ G', zSt g G' κ s b sold x → zFrK [κ] G G' → ZW g X u v G' p L st) : ZW g X u v G pc L (.int x :: .ref s :: st) :=
  z_putf hX hF ft3_1 hS.1 hdg p hp rfl rfl (Nat.le_of_ble_eq_true rfl) rfl (kk _ (zSt_putF hS) (zup_fr hS.1 (zkyS κ 0 (by decide)) h9))
theorem s_put_fallenN (hX : zOk g X own cc nL ret d mc ms) {κ : Nat × Nat} {s b idx : Nat} {sold : Nat → Int32} {fallen x : Int32} (hS : zSt g G κ s b sold fallen) (h9 : ¬ κ.2 = 9) (hF : zFgN own idx 3 1) (hdg : decode cc pc = .ok (.putfield idx, 3)) (p : Nat) (hp : pc + 3 = p) (kk : ∀ G', zSt g G' κ s b sold x → zFrK [κ] G G' → ZW g X u v G' p L st) : ZW g X u v G pc L (.int x :: .ref s :: st) :=
  z_putfN hX hF ft3_1 hS.1 hdg p hp rfl rfl (Nat.le_of_ble_eq_true rfl) rfl (kk _ (zSt_putF hS) (zup_fr hS.1 (zkyS κ 0 (by decide)) h9))
theorem a_ast (hX : zOk g X own cc nL ret d mc ms) {κ : Nat × Nat} {a n : Nat} {f : Nat → Int32} {x : Int32} (hA : zIa g G κ a n f) (h9 : ¬ κ.2 = 9) (j : Nat) (hj : j < n) (hn : n < 2147483648) (hdg : decode cc pc = .ok (.iastore, 1)) (p : Nat) (hp : pc + 1 = p) (kk : ∀ G', zIa g G' κ a n (upd f j x) → zFrK [κ] G G' → ZW g X u v G' p L st) : ZW g X u v G pc L (.int x :: .int (nI j) :: .ref a :: st) := by
  obtain ⟨f0, ha, hf0⟩ := hA
  exact z_iast hX ha hdg p hp (z_inN hj hn) (f' := upd f0 j x) (by rw [nI_clamp (by omega)]) (kk _ (zIa_put ⟨f0, ha, hf0⟩ (zupF hf0)) (zup_fr ha (zkyS κ 0 (by decide)) h9))
variable {q t : Nat} {A : Nat → Nat → Nat} {N tk cp sh pr : Nat → Int32} {fc gn : Int32}
theorem t_ast_curve (hX : zOk g X own cc nL ret d mc ms) {x : Int32} (hT : zTo g G q t A N tk cp sh pr fc gn) (k0 j0 : Nat) (hk0 : k0 < 4) (hj0 : j0 < 2) (hdg : decode cc pc = .ok (.iastore, 1)) (p : Nat) (hp : pc + 1 = p) (kk : ∀ G', zTo g G' q t A (upd N (2 + 4 * j0 + k0) x) tk cp sh pr fc gn → zFrK [(q, 0)] G G' → ZW g X u v G' p L st) : ZW g X u v G pc L (.int x :: .int (nI j0) :: .ref (A 11 k0) :: st) := by
  obtain ⟨f0, ha, hf0⟩ := hT.fc k0 hk0
  exact z_iast hX ha hdg p hp (z_inN hj0 (by decide)) (f' := upd f0 j0 x) (by rw [nI_clamp (by omega)]) (kk _ (zTo_put_curve hk0 hj0 hT ha hf0) (zup_fr ha (zky0 _ _ (by omega)) (show ¬ 0 = 9 from by decide)))
theorem t_ast_of (hX : zOk g X own cc nL ret d mc ms) {x : Int32} (hT : zTo g G q t A N tk cp sh pr fc gn) (k0 j0 : Nat) (hk0 : k0 < 6) (hj0 : j0 < 5) (hdg : decode cc pc = .ok (.iastore, 1)) (p : Nat) (hp : pc + 1 = p) (kk : ∀ G', zTo g G' q t A (upd N (10 + 5 * k0 + j0) x) tk cp sh pr fc gn → zFrK [(q, 0)] G G' → ZW g X u v G' p L st) : ZW g X u v G pc L (.int x :: .int (nI j0) :: .ref (A 12 k0) :: st) := by
  obtain ⟨f0, ha, hf0⟩ := hT.fo k0 hk0
  exact z_iast hX ha hdg p hp (z_inN hj0 (by decide)) (f' := upd f0 j0 x) (by rw [nI_clamp (by omega)]) (kk _ (zTo_put_of hk0 hj0 hT ha hf0) (zup_fr ha (zky0 _ _ (by omega)) (show ¬ 0 = 9 from by decide)))
theorem t_ast_hold (hX : zOk g X own cc nL ret d mc ms) {x : Int32} (hT : zTo g G q t A N tk cp sh pr fc gn) (k0 j0 : Nat) (hk0 : k0 < 6) (hj0 : j0 < 4) (hdg : decode cc pc = .ok (.iastore, 1)) (p : Nat) (hp : pc + 1 = p) (kk : ∀ G', zTo g G' q t A (upd N (40 + 4 * k0 + j0) x) tk cp sh pr fc gn → zFrK [(q, 0)] G G' → ZW g X u v G' p L st) : ZW g X u v G pc L (.int x :: .int (nI j0) :: .ref (A 13 k0) :: st) := by
  obtain ⟨f0, ha, hf0⟩ := hT.fh k0 hk0
  exact z_iast hX ha hdg p hp (z_inN hj0 (by decide)) (f' := upd f0 j0 x) (by rw [nI_clamp (by omega)]) (kk _ (zTo_put_hold hk0 hj0 hT ha hf0) (zup_fr ha (zky0 _ _ (by omega)) (show ¬ 0 = 9 from by decide)))
theorem t_ast_loan (hX : zOk g X own cc nL ret d mc ms) {x : Int32} (hT : zTo g G q t A N tk cp sh pr fc gn) (k0 j0 : Nat) (hk0 : k0 < 6) (hj0 : j0 < 6) (hdg : decode cc pc = .ok (.iastore, 1)) (p : Nat) (hp : pc + 1 = p) (kk : ∀ G', zTo g G' q t A (upd N (64 + 6 * k0 + j0) x) tk cp sh pr fc gn → zFrK [(q, 0)] G G' → ZW g X u v G' p L st) : ZW g X u v G pc L (.int x :: .int (nI j0) :: .ref (A 14 k0) :: st) := by
  obtain ⟨f0, ha, hf0⟩ := hT.fl k0 hk0
  exact z_iast hX ha hdg p hp (z_inN hj0 (by decide)) (f' := upd f0 j0 x) (by rw [nI_clamp (by omega)]) (kk _ (zTo_put_loan hk0 hj0 hT ha hf0) (zup_fr ha (zky0 _ _ (by omega)) (show ¬ 0 = 9 from by decide)))
theorem t_ast_taken (hX : zOk g X own cc nL ret d mc ms) {x : Int32} (hT : zTo g G q t A N tk cp sh pr fc gn) (j0 : Nat) (hj0 : j0 < 4) (hdg : decode cc pc = .ok (.iastore, 1)) (p : Nat) (hp : pc + 1 = p) (kk : ∀ G', zTo g G' q t A N (upd tk j0 x) cp sh pr fc gn → zFrK [(q, 0)] G G' → ZW g X u v G' p L st) : ZW g X u v G pc L (.int x :: .int (nI j0) :: .ref (A 6 0) :: st) := by
  obtain ⟨f0, ha, hf0⟩ := hT.v6
  exact z_iast hX ha hdg p hp (z_inN hj0 (by decide)) (f' := upd f0 j0 x) (by rw [nI_clamp (by omega)]) (kk _ (zTo_put_taken hT (zupF hf0)) (zup_fr ha (zky0 _ _ (by decide)) (show ¬ 0 = 9 from by decide)))
theorem t_ast_capped (hX : zOk g X own cc nL ret d mc ms) {x : Int32} (hT : zTo g G q t A N tk cp sh pr fc gn) (j0 : Nat) (hj0 : j0 < 4) (hdg : decode cc pc = .ok (.iastore, 1)) (p : Nat) (hp : pc + 1 = p) (kk : ∀ G', zTo g G' q t A N tk (upd cp j0 x) sh pr fc gn → zFrK [(q, 0)] G G' → ZW g X u v G' p L st) : ZW g X u v G pc L (.int x :: .int (nI j0) :: .ref (A 7 0) :: st) := by
  obtain ⟨f0, ha, hf0⟩ := hT.v7
  exact z_iast hX ha hdg p hp (z_inN hj0 (by decide)) (f' := upd f0 j0 x) (by rw [nI_clamp (by omega)]) (kk _ (zTo_put_capped hT (zupF hf0)) (zup_fr ha (zky0 _ _ (by decide)) (show ¬ 0 = 9 from by decide)))
theorem t_ast_shocked (hX : zOk g X own cc nL ret d mc ms) {x : Int32} (hT : zTo g G q t A N tk cp sh pr fc gn) (j0 : Nat) (hj0 : j0 < 4) (hdg : decode cc pc = .ok (.iastore, 1)) (p : Nat) (hp : pc + 1 = p) (kk : ∀ G', zTo g G' q t A N tk cp (upd sh j0 x) pr fc gn → zFrK [(q, 0)] G G' → ZW g X u v G' p L st) : ZW g X u v G pc L (.int x :: .int (nI j0) :: .ref (A 8 0) :: st) := by
  obtain ⟨f0, ha, hf0⟩ := hT.v8
  exact z_iast hX ha hdg p hp (z_inN hj0 (by decide)) (f' := upd f0 j0 x) (by rw [nI_clamp (by omega)]) (kk _ (zTo_put_shocked hT (zupF hf0)) (zup_fr ha (zky0 _ _ (by decide)) (show ¬ 0 = 9 from by decide)))
theorem t_ast_priced (hX : zOk g X own cc nL ret d mc ms) {x : Int32} (hT : zTo g G q t A N tk cp sh pr fc gn) (j0 : Nat) (hj0 : j0 < 4) (hdg : decode cc pc = .ok (.iastore, 1)) (p : Nat) (hp : pc + 1 = p) (kk : ∀ G', zTo g G' q t A N tk cp sh (upd pr j0 x) fc gn → zFrK [(q, 0)] G G' → ZW g X u v G' p L st) : ZW g X u v G pc L (.int x :: .int (nI j0) :: .ref (A 9 0) :: st) := by
  obtain ⟨f0, ha, hf0⟩ := hT.v9
  exact z_iast hX ha hdg p hp (z_inN hj0 (by decide)) (f' := upd f0 j0 x) (by rw [nI_clamp (by omega)]) (kk _ (zTo_put_priced hT (zupF hf0)) (zup_fr ha (zky0 _ _ (by decide)) (show ¬ 0 = 9 from by decide)))
theorem t_put_assets (hX : zOk g X own cc nL ret d mc ms) {x : Int32} {idx : Nat} (hT : zTo g G q t A N tk cp sh pr fc gn) (hF : zFg own idx 1 0) (hdg : decode cc pc = .ok (.putfield idx, 3)) (p : Nat) (hp : pc + 3 = p) (kk : ∀ G', zTo g G' q t A (upd N 0 x) tk cp sh pr fc gn → zFrK [(q, 0)] G G' → ZW g X u v G' p L st) : ZW g X u v G pc L (.int x :: .ref t :: st) :=
  z_putf hX hF ft1_0 hT.o hdg p hp rfl rfl (Nat.le_of_ble_eq_true rfl) rfl (kk _ (zTo_put_assets x hT) (zup_fr hT.o (zky0 _ _ (by decide)) (show ¬ 0 = 9 from by decide)))
theorem t_put_assetsN (hX : zOk g X own cc nL ret d mc ms) {x : Int32} {idx : Nat} (hT : zTo g G q t A N tk cp sh pr fc gn) (hF : zFgN own idx 1 0) (hdg : decode cc pc = .ok (.putfield idx, 3)) (p : Nat) (hp : pc + 3 = p) (kk : ∀ G', zTo g G' q t A (upd N 0 x) tk cp sh pr fc gn → zFrK [(q, 0)] G G' → ZW g X u v G' p L st) : ZW g X u v G pc L (.int x :: .ref t :: st) :=
  z_putfN hX hF ft1_0 hT.o hdg p hp rfl rfl (Nat.le_of_ble_eq_true rfl) rfl (kk _ (zTo_put_assets x hT) (zup_fr hT.o (zky0 _ _ (by decide)) (show ¬ 0 = 9 from by decide)))
theorem t_put_houses (hX : zOk g X own cc nL ret d mc ms) {x : Int32} {idx : Nat} (hT : zTo g G q t A N tk cp sh pr fc gn) (hF : zFg own idx 1 1) (hdg : decode cc pc = .ok (.putfield idx, 3)) (p : Nat) (hp : pc + 3 = p) (kk : ∀ G', zTo g G' q t A (upd N 1 x) tk cp sh pr fc gn → zFrK [(q, 0)] G G' → ZW g X u v G' p L st) : ZW g X u v G pc L (.int x :: .ref t :: st) :=
  z_putf hX hF ft1_1 hT.o hdg p hp rfl rfl (Nat.le_of_ble_eq_true rfl) rfl (kk _ (zTo_put_houses x hT) (zup_fr hT.o (zky0 _ _ (by decide)) (show ¬ 0 = 9 from by decide)))
theorem t_put_housesN (hX : zOk g X own cc nL ret d mc ms) {x : Int32} {idx : Nat} (hT : zTo g G q t A N tk cp sh pr fc gn) (hF : zFgN own idx 1 1) (hdg : decode cc pc = .ok (.putfield idx, 3)) (p : Nat) (hp : pc + 3 = p) (kk : ∀ G', zTo g G' q t A (upd N 1 x) tk cp sh pr fc gn → zFrK [(q, 0)] G G' → ZW g X u v G' p L st) : ZW g X u v G pc L (.int x :: .ref t :: st) :=
  z_putfN hX hF ft1_1 hT.o hdg p hp rfl rfl (Nat.le_of_ble_eq_true rfl) rfl (kk _ (zTo_put_houses x hT) (zup_fr hT.o (zky0 _ _ (by decide)) (show ¬ 0 = 9 from by decide)))
theorem t_put_forced (hX : zOk g X own cc nL ret d mc ms) {x : Int32} {idx : Nat} (hT : zTo g G q t A N tk cp sh pr fc gn) (hF : zFg own idx 1 7) (hdg : decode cc pc = .ok (.putfield idx, 3)) (p : Nat) (hp : pc + 3 = p) (kk : ∀ G', zTo g G' q t A N tk cp sh pr x gn → zFrK [(q, 0)] G G' → ZW g X u v G' p L st) : ZW g X u v G pc L (.int x :: .ref t :: st) :=
  z_putf hX hF ft1_7 hT.o hdg p hp rfl rfl (Nat.le_of_ble_eq_true rfl) rfl (kk _ (zTo_put_forced x hT) (zup_fr hT.o (zky0 _ _ (by decide)) (show ¬ 0 = 9 from by decide)))
theorem t_put_forcedN (hX : zOk g X own cc nL ret d mc ms) {x : Int32} {idx : Nat} (hT : zTo g G q t A N tk cp sh pr fc gn) (hF : zFgN own idx 1 7) (hdg : decode cc pc = .ok (.putfield idx, 3)) (p : Nat) (hp : pc + 3 = p) (kk : ∀ G', zTo g G' q t A N tk cp sh pr x gn → zFrK [(q, 0)] G G' → ZW g X u v G' p L st) : ZW g X u v G pc L (.int x :: .ref t :: st) :=
  z_putfN hX hF ft1_7 hT.o hdg p hp rfl rfl (Nat.le_of_ble_eq_true rfl) rfl (kk _ (zTo_put_forced x hT) (zup_fr hT.o (zky0 _ _ (by decide)) (show ¬ 0 = 9 from by decide)))
theorem t_put_gone (hX : zOk g X own cc nL ret d mc ms) {x : Int32} {idx : Nat} (hT : zTo g G q t A N tk cp sh pr fc gn) (hF : zFg own idx 1 14) (hdg : decode cc pc = .ok (.putfield idx, 3)) (p : Nat) (hp : pc + 3 = p) (kk : ∀ G', zTo g G' q t A N tk cp sh pr fc x → zFrK [(q, 0)] G G' → ZW g X u v G' p L st) : ZW g X u v G pc L (.int x :: .ref t :: st) :=
  z_putf hX hF ft1_14 hT.o hdg p hp rfl rfl (Nat.le_of_ble_eq_true rfl) rfl (kk _ (zTo_put_gone x hT) (zup_fr hT.o (zky0 _ _ (by decide)) (show ¬ 0 = 9 from by decide)))
theorem t_put_goneN (hX : zOk g X own cc nL ret d mc ms) {x : Int32} {idx : Nat} (hT : zTo g G q t A N tk cp sh pr fc gn) (hF : zFgN own idx 1 14) (hdg : decode cc pc = .ok (.putfield idx, 3)) (p : Nat) (hp : pc + 3 = p) (kk : ∀ G', zTo g G' q t A N tk cp sh pr fc x → zFrK [(q, 0)] G G' → ZW g X u v G' p L st) : ZW g X u v G pc L (.int x :: .ref t :: st) :=
  z_putfN hX hF ft1_14 hT.o hdg p hp rfl rfl (Nat.le_of_ble_eq_true rfl) rfl (kk _ (zTo_put_gone x hT) (zup_fr hT.o (zky0 _ _ (by decide)) (show ¬ 0 = 9 from by decide)))
end ZFRows
