set_option maxRecDepth 100000
/-! FPIC: pictures of State, Town, rules over the abstract heap; cells of one owner and group have one key; group 9 is never written -/
def zKy (lb : Nat × Nat) : Nat × Nat := (lb.1, lb.2 / 512)
def zFrK (ks : List (Nat × Nat)) (G G' : zHG) : Prop := ∀ (a : Nat) (lb : Nat × Nat) (e : va_E), G a = some (lb, e) → ((zKy lb).2 = 9 ∨ zKy lb ∉ ks) → G' a = some (lb, e)
def zKp (κ : Nat × Nat) (G G' : zHG) : Prop := ∀ (a : Nat) (lb : Nat × Nat) (e : va_E), G a = some (lb, e) → ((zKy lb).2 = 9 ∨ zKy lb = κ) → G' a = some (lb, e)
theorem zFrK.kp {ks : List (Nat × Nat)} {κ : Nat × Nat} {G G' : zHG} (h : zFrK ks G G') (hn : κ ∉ ks) : zKp κ G G' := fun a lb e h1 h2 => h a lb e h1 (h2.imp_right (fun (z : zKy lb = κ) => by rw [z]; exact hn))
theorem zFrK.rf {ks : List (Nat × Nat)} {G : zHG} : zFrK ks G G := fun _ _ _ h _ => h
theorem zFrK.tr {ks : List (Nat × Nat)} {G G1 G2 : zHG} (h : zFrK ks G G1) (h' : zFrK ks G1 G2) : zFrK ks G G2 := fun a lb e h1 h2 => h' a lb e (h a lb e h1 h2) h2
theorem zFrK.mono {ks ks' : List (Nat × Nat)} {G G' : zHG} (h : zFrK ks G G') (hs : ∀ κ ∈ ks, κ ∈ ks') : zFrK ks' G G' := fun a lb e h1 h2 => h a lb e h1 (h2.imp_right (fun z y => z (hs _ y)))
theorem zFrK.o {ks : List (Nat × Nat)} {G G' : zHG} (h : zFrK ks G G') {a : Nat} {lb : Nat × Nat} {e : va_E} (ha : G a = some (lb, e)) (hn : zKy lb ∉ ks) : G' a = some (lb, e) := h a lb e ha (Or.inr hn)
/-- new cells may have come since G0 -/
theorem zFrK.fresh {ks : List (Nat × Nat)} {G0 G G' : zHG} {κ : Nat × Nat} (h0 : zFrK ks G0 G) (h : zFrK [κ] G G') (hn : ∀ (a : Nat) (lb : Nat × Nat) (e : va_E), G0 a = some (lb, e) → zKy lb ≠ κ) : zFrK ks G0 G' := fun a lb e h1 h2 => h a lb e (h0 a lb e h1 h2) (Or.inr (fun z => hn a lb e h1 (List.mem_singleton.mp z)))
theorem zni0 {κ : Nat × Nat} : κ ∉ ([] : List (Nat × Nat)) := fun h => by cases h
theorem zni1 {κ κ' : Nat × Nat} {ks : List (Nat × Nat)} (h : κ ≠ κ') (t : κ ∉ ks) : κ ∉ κ' :: ks := fun z => by
  rcases List.mem_cons.mp z with e | e
  · exact h e
  · exact t e
theorem zkl {a b i j : Nat} (h : a ≠ b) : (a, i) ≠ (b, j) := fun e => h (Prod.mk.inj e).1
theorem zkr {a b i j : Nat} (h : i ≠ j) : (a, i) ≠ (b, j) := fun e => h (Prod.mk.inj e).2
theorem zky0 (a r : Nat) (h : r < 512) : zKy (a, r) = (a, 0) := by show (a, r / 512) = _; rw [Nat.div_eq_of_lt h]
theorem zkyS (κ : Nat × Nat) (r : Nat) (h : r < 512) : zKy (κ.1, 512 * κ.2 + r) = κ := by
  obtain ⟨a, b⟩ := κ
  show (a, (512 * b + r) / 512) = (a, b)
  rw [show (512 * b + r) / 512 = b from by omega]
theorem zup_fr {G : zHG} {a : Nat} {lb : Nat × Nat} {e0 e : va_E} {κ : Nat × Nat} (ha : G a = some (lb, e0)) (hk : zKy lb = κ) (h9 : ¬ κ.2 = 9) : zFrK [κ] G (zup G a (lb, e)) := fun b l e' h1 h2 => by
  have hne : b ≠ a := fun z => by
    subst z
    rw [ha] at h1
    cases h1
    rcases h2 with h2 | h2
    · exact h9 (hk ▸ h2)
    · exact h2 (List.mem_singleton.mpr hk)
  rw [zup_ne _ _ hne]
  exact h1
theorem zup_new {G : zHG} {a : Nat} {w : (Nat × Nat) × va_E} {ks : List (Nat × Nat)} (ha : G a = none) : zFrK ks G (zup G a w) := fun b l e' h1 _ => by
  have hne : b ≠ a := fun z => by subst z; rw [ha] at h1; cases h1
  rw [zup_ne _ _ hne]
  exact h1
theorem zup_keep {G : zHG} {a : Nat} {lb : Nat × Nat} {e0 e : va_E} (ha : G a = some (lb, e0)) {b : Nat} {l : Nat × Nat} {e' : va_E} (h1 : G b = some (l, e')) (hl : l ≠ lb) : zup G a (lb, e) b = some (l, e') := by
  have hne : b ≠ a := fun z => by subst z; rw [ha] at h1; cases h1; exact hl rfl
  rw [zup_ne _ _ hne]
  exact h1
/-- an array of ints (or bytes) as far as its length -/
def zAr (G : zHG) (a : Nat) (lb : Nat × Nat) (c : ClassId) (n : Nat) (f : Nat → Int32) : Prop := ∃ f', G a = some (lb, zI c n f') ∧ ∀ j, j < n → f' j = f j
theorem zAr.kp {G G' : zHG} {a : Nat} {lb κ : Nat × Nat} {c : ClassId} {n : Nat} {f : Nat → Int32} (h : zAr G a lb c n f) (hk : zKp κ G G') (hl : zKy lb = κ) : zAr G' a lb c n f := by
  obtain ⟨f', h1, h2⟩ := h
  exact ⟨f', hk a _ _ h1 (Or.inr hl), h2⟩
theorem zAr.up {G : zHG} {a b : Nat} {lb l : Nat × Nat} {e0 e : va_E} {c : ClassId} {n : Nat} {f f2 : Nat → Int32} (h : zAr G b l c n f) (ha : G a = some (lb, e0)) (hl : l ≠ lb) (hf : ∀ j, j < n → f j = f2 j) : zAr (zup G a (lb, e)) b l c n f2 := by
  obtain ⟨f', h1, h2⟩ := h
  exact ⟨f', zup_keep ha h1 hl, fun j hj => (h2 j hj).trans (hf j hj)⟩
theorem zupd_ne {N : Nat → Int32} {i j : Nat} {v : Int32} (h : ¬ j = i) : N j = upd N i v j := (if_neg h).symm
theorem zupd_s {N : Nat → Int32} {i j : Nat} {v : Int32} (h : j = i) : upd N i v j = v := if_pos h
theorem zlb {t r r' : Nat} (h : r ≠ r') : (t, r) ≠ (t, r') := fun e => h (Prod.mk.inj e).2
/-- a rule, which nobody writes -/
def zRu (G : zHG) (r : Nat) (kd as mu : Int32) : Prop := (kd = 0 ∧ G r = some ((0, 4608), zO 7 [.int as, .int mu])) ∨ (kd = 1 ∧ G r = some ((0, 4608), zO 8 [.int as, .int mu]))
theorem zRu.kp {G G' : zHG} {κ : Nat × Nat} {r : Nat} {kd as mu : Int32} (h : zRu G r kd as mu) (hk : zKp κ G G') : zRu G' r kd as mu := h.imp (fun z => ⟨z.1, hk _ _ _ z.2 (Or.inl (show 4608 / 512 = 9 from by decide))⟩) (fun z => ⟨z.1, hk _ _ _ z.2 (Or.inl (show 4608 / 512 = 9 from by decide))⟩)
theorem zRu.up {G : zHG} {a t k : Nat} {e0 e : va_E} {r : Nat} {kd as mu : Int32} (h : zRu G r kd as mu) (ha : G a = some ((t, k), e0)) (hk : k < 4608) : zRu (zup G a ((t, k), e)) r kd as mu :=
  h.imp (fun z => ⟨z.1, zup_keep ha z.2 (fun q => by have := (Prod.mk.inj q).2; omega)⟩) (fun z => ⟨z.1, zup_keep ha z.2 (fun q => by have := (Prod.mk.inj q).2; omega)⟩)
def zsc (s : Nat) : Nat := if s = 0 then 5 else if s = 1 then 6 else 4
/-- State -/
def zSt (g : Zg) (G : zHG) (κ : Nat × Nat) (s b : Nat) (sold : Nat → Int32) (fallen : Int32) : Prop := G s = some ((κ.1, 512 * κ.2 + 0), zO 3 [.ref b, .int fallen]) ∧ zAr G b (κ.1, 512 * κ.2 + 1) (zca g 0) 4 sold
theorem zSt.kp {g : Zg} {G G' : zHG} {κ : Nat × Nat} {s b : Nat} {sold : Nat → Int32} {fallen : Int32} (h : zSt g G κ s b sold fallen) (hk : zKp κ G G') : zSt g G' κ s b sold fallen := ⟨hk _ _ _ h.1 (Or.inr (zkyS κ 0 (by decide))), h.2.kp hk (zkyS κ 1 (by decide))⟩
theorem zSt.o {g : Zg} {G : zHG} {κ : Nat × Nat} {s b : Nat} {sold : Nat → Int32} {fallen : Int32} (h : zSt g G κ s b sold fallen) : G s = some ((κ.1, 512 * κ.2 + 0), zO 3 [.ref b, .int fallen]) := h.1
theorem zSt_putF {g : Zg} {G : zHG} {κ : Nat × Nat} {s b : Nat} {sold : Nat → Int32} {fallen x : Int32} (h : zSt g G κ s b sold fallen) : zSt g (zup G s ((κ.1, 512 * κ.2 + 0), zO 3 [.ref b, .int x])) κ s b sold x := ⟨zup_self _ _ _, h.2.up h.1 (zlb (by omega)) (fun _ _ => rfl)⟩
theorem zSt_putS {g : Zg} {G : zHG} {κ : Nat × Nat} {s b : Nat} {sold sold' f' : Nat → Int32} {fallen : Int32} (h : zSt g G κ s b sold fallen) (hf : ∀ j, j < 4 → f' j = sold' j) : zSt g (zup G b ((κ.1, 512 * κ.2 + 1), zI (zca g 0) 4 f')) κ s b sold' fallen := by
  obtain ⟨h1, f0, h2, h3⟩ := h
  exact ⟨zup_keep h2 h1 (zlb (by omega)), f', zup_self _ _ _, hf⟩
/-- an array of ints by itself -/
def zIa (g : Zg) (G : zHG) (κ : Nat × Nat) (a n : Nat) (f : Nat → Int32) : Prop := zAr G a (κ.1, 512 * κ.2 + 0) (zca g 0) n f
theorem zIa.kp {g : Zg} {G G' : zHG} {κ : Nat × Nat} {a n : Nat} {f : Nat → Int32} (h : zIa g G κ a n f) (hk : zKp κ G G') : zIa g G' κ a n f := zAr.kp h hk (zkyS κ 0 (by decide))
theorem zIa_put {g : Zg} {G : zHG} {κ : Nat × Nat} {a n : Nat} {f f' f2 : Nat → Int32} (h : zIa g G κ a n f) (hf : ∀ j, j < n → f' j = f2 j) : zIa g (zup G a ((κ.1, 512 * κ.2 + 0), zI (zca g 0) n f')) κ a n f2 := ⟨f', zup_self _ _ _, hf⟩
/-- a shelf of a town: how many lie there, the rules -/
def zSh (g : Zg) (G : zHG) (q : Nat) (A : Nat → Nat → Nat) (N : Nat → Int32) (s : Nat) : Prop := G (A 15 s) = some ((q, 240 + s), zO 2 [.ref (A 16 s), .int (N (100 + 13 * s))]) ∧ ∃ f, G (A 16 s) = some ((q, 256 + s), zR (zca g (zsc s)) 4 f) ∧ ∀ k, k < (N (100 + 13 * s)).toNatClampNeg → k < 4 → ∃ r, f k = some r ∧ zRu G r (N (100 + 13 * s + 1 + 3 * k)) (N (100 + 13 * s + 1 + 3 * k + 1)) (N (100 + 13 * s + 1 + 3 * k + 2))
theorem zSh.kp {g : Zg} {G G' : zHG} {q : Nat} {A : Nat → Nat → Nat} {N : Nat → Int32} {s : Nat} (hs : s < 3) (h : zSh g G q A N s) (hk : zKp (q, 0) G G') : zSh g G' q A N s := by
  obtain ⟨h1, f, h2, h3⟩ := h
  refine ⟨hk _ _ _ h1 (Or.inr (zky0 _ _ (by omega))), f, hk _ _ _ h2 (Or.inr (zky0 _ _ (by omega))), fun k hk1 hk2 => ?_⟩
  obtain ⟨r, h4, h5⟩ := h3 k hk1 hk2
  exact ⟨r, h4, h5.kp hk⟩
theorem zSh.up {g : Zg} {G : zHG} {q a r : Nat} {A : Nat → Nat → Nat} {N N2 : Nat → Int32} {s : Nat} {e0 e : va_E} (hs : s < 3) (h : zSh g G q A N s) (ha : G a = some ((q, r), e0)) (h1 : r ≠ 240 + s) (h2 : r ≠ 256 + s) (hr : r < 512) (hN : ∀ j, 100 ≤ j → N j = N2 j) : zSh g (zup G a ((q, r), e)) q A N2 s := by
  obtain ⟨k1, f, k2, k3⟩ := h
  refine ⟨by rw [← hN _ (by omega)]; exact zup_keep ha k1 (zlb (Ne.symm h1)), f, zup_keep ha k2 (zlb (Ne.symm h2)), fun k hk1 hk2 => ?_⟩
  rw [← hN _ (by omega)] at hk1
  obtain ⟨q', k4, k5⟩ := k3 k hk1 hk2
  rw [← hN _ (by omega), ← hN _ (by omega), ← hN _ (by omega)]
  exact ⟨q', k4, k5.up ha (by omega)⟩
/-- Town: addresses by A, what is told by N (as the reference has it), what is tried -/
def zTo (g : Zg) (G : zHG) (q t : Nat) (A : Nat → Nat → Nat) (N tk cp sh pr : Nat → Int32) (fc gn : Int32) : Prop := G t = some ((q, 0), zO 1 [.int (N 0), .int (N 1), .ref (A 1 0), .ref (A 2 0), .ref (A 3 0), .ref (A 4 0), .ref (A 5 0), .int fc, .ref (A 6 0), .ref (A 7 0), .ref (A 8 0), .ref (A 20 0), .ref (A 21 0), .ref (A 9 0), .int gn]) ∧ G (A 1 0) = some ((q, 1), zR (zca g 2) 4 (fun k => some (A 11 k))) ∧ G (A 2 0) = some ((q, 2), zR (zca g 2) 6 (fun k => some (A 12 k))) ∧ G (A 3 0) = some ((q, 3), zR (zca g 2) 6 (fun k => some (A 13 k))) ∧ G (A 4 0) = some ((q, 4), zR (zca g 2) 6 (fun k => some (A 14 k))) ∧ G (A 5 0) = some ((q, 5), zR (zca g 3) 3 (fun k => some (A 15 k))) ∧ (∀ k, k < 4 → zAr G (A 11 k) (q, 176 + k) (zca g 0) 2 (fun j => N (2 + 4 * j + k))) ∧ (∀ k, k < 6 → zAr G (A 12 k) (q, 192 + k) (zca g 0) 5 (fun j => N (10 + 5 * k + j))) ∧ (∀ k, k < 6 → zAr G (A 13 k) (q, 208 + k) (zca g 0) 4 (fun j => N (40 + 4 * k + j))) ∧ (∀ k, k < 6 → zAr G (A 14 k) (q, 224 + k) (zca g 0) 6 (fun j => N (64 + 6 * k + j))) ∧ (∀ s, s < 3 → zSh g G q A N s) ∧ zAr G (A 6 0) (q, 6) (zca g 0) 4 tk ∧ zAr G (A 7 0) (q, 7) (zca g 0) 4 cp ∧ zAr G (A 8 0) (q, 8) (zca g 0) 4 sh ∧ zAr G (A 9 0) (q, 9) (zca g 0) 4 pr
theorem zTo.o {g : Zg} {G : zHG} {q t : Nat} {A : Nat → Nat → Nat} {N tk cp sh pr : Nat → Int32} {fc gn : Int32} (h : zTo g G q t A N tk cp sh pr fc gn) : G t = some ((q, 0), zO 1 [.int (N 0), .int (N 1), .ref (A 1 0), .ref (A 2 0), .ref (A 3 0), .ref (A 4 0), .ref (A 5 0), .int fc, .ref (A 6 0), .ref (A 7 0), .ref (A 8 0), .ref (A 20 0), .ref (A 21 0), .ref (A 9 0), .int gn]) := h.1
theorem zTo.c0 {g : Zg} {G : zHG} {q t : Nat} {A : Nat → Nat → Nat} {N tk cp sh pr : Nat → Int32} {fc gn : Int32} (h : zTo g G q t A N tk cp sh pr fc gn) : G (A 1 0) = some ((q, 1), zR (zca g 2) 4 (fun k => some (A 11 k))) := h.2.1
theorem zTo.o0 {g : Zg} {G : zHG} {q t : Nat} {A : Nat → Nat → Nat} {N tk cp sh pr : Nat → Int32} {fc gn : Int32} (h : zTo g G q t A N tk cp sh pr fc gn) : G (A 2 0) = some ((q, 2), zR (zca g 2) 6 (fun k => some (A 12 k))) := h.2.2.1
theorem zTo.h0 {g : Zg} {G : zHG} {q t : Nat} {A : Nat → Nat → Nat} {N tk cp sh pr : Nat → Int32} {fc gn : Int32} (h : zTo g G q t A N tk cp sh pr fc gn) : G (A 3 0) = some ((q, 3), zR (zca g 2) 6 (fun k => some (A 13 k))) := h.2.2.2.1
theorem zTo.l0 {g : Zg} {G : zHG} {q t : Nat} {A : Nat → Nat → Nat} {N tk cp sh pr : Nat → Int32} {fc gn : Int32} (h : zTo g G q t A N tk cp sh pr fc gn) : G (A 4 0) = some ((q, 4), zR (zca g 2) 6 (fun k => some (A 14 k))) := h.2.2.2.2.1
theorem zTo.s0 {g : Zg} {G : zHG} {q t : Nat} {A : Nat → Nat → Nat} {N tk cp sh pr : Nat → Int32} {fc gn : Int32} (h : zTo g G q t A N tk cp sh pr fc gn) : G (A 5 0) = some ((q, 5), zR (zca g 3) 3 (fun k => some (A 15 k))) := h.2.2.2.2.2.1
theorem zTo.fc {g : Zg} {G : zHG} {q t : Nat} {A : Nat → Nat → Nat} {N tk cp sh pr : Nat → Int32} {fc gn : Int32} (h : zTo g G q t A N tk cp sh pr fc gn) : (∀ k, k < 4 → zAr G (A 11 k) (q, 176 + k) (zca g 0) 2 (fun j => N (2 + 4 * j + k))) := h.2.2.2.2.2.2.1
theorem zTo.fo {g : Zg} {G : zHG} {q t : Nat} {A : Nat → Nat → Nat} {N tk cp sh pr : Nat → Int32} {fc gn : Int32} (h : zTo g G q t A N tk cp sh pr fc gn) : (∀ k, k < 6 → zAr G (A 12 k) (q, 192 + k) (zca g 0) 5 (fun j => N (10 + 5 * k + j))) := h.2.2.2.2.2.2.2.1
theorem zTo.fh {g : Zg} {G : zHG} {q t : Nat} {A : Nat → Nat → Nat} {N tk cp sh pr : Nat → Int32} {fc gn : Int32} (h : zTo g G q t A N tk cp sh pr fc gn) : (∀ k, k < 6 → zAr G (A 13 k) (q, 208 + k) (zca g 0) 4 (fun j => N (40 + 4 * k + j))) := h.2.2.2.2.2.2.2.2.1
theorem zTo.fl {g : Zg} {G : zHG} {q t : Nat} {A : Nat → Nat → Nat} {N tk cp sh pr : Nat → Int32} {fc gn : Int32} (h : zTo g G q t A N tk cp sh pr fc gn) : (∀ k, k < 6 → zAr G (A 14 k) (q, 224 + k) (zca g 0) 6 (fun j => N (64 + 6 * k + j))) := h.2.2.2.2.2.2.2.2.2.1
theorem zTo.fs {g : Zg} {G : zHG} {q t : Nat} {A : Nat → Nat → Nat} {N tk cp sh pr : Nat → Int32} {fc gn : Int32} (h : zTo g G q t A N tk cp sh pr fc gn) : (∀ s, s < 3 → zSh g G q A N s) := h.2.2.2.2.2.2.2.2.2.2.1
theorem zTo.v6 {g : Zg} {G : zHG} {q t : Nat} {A : Nat → Nat → Nat} {N tk cp sh pr : Nat → Int32} {fc gn : Int32} (h : zTo g G q t A N tk cp sh pr fc gn) : zAr G (A 6 0) (q, 6) (zca g 0) 4 tk := h.2.2.2.2.2.2.2.2.2.2.2.1
theorem zTo.v7 {g : Zg} {G : zHG} {q t : Nat} {A : Nat → Nat → Nat} {N tk cp sh pr : Nat → Int32} {fc gn : Int32} (h : zTo g G q t A N tk cp sh pr fc gn) : zAr G (A 7 0) (q, 7) (zca g 0) 4 cp := h.2.2.2.2.2.2.2.2.2.2.2.2.1
theorem zTo.v8 {g : Zg} {G : zHG} {q t : Nat} {A : Nat → Nat → Nat} {N tk cp sh pr : Nat → Int32} {fc gn : Int32} (h : zTo g G q t A N tk cp sh pr fc gn) : zAr G (A 8 0) (q, 8) (zca g 0) 4 sh := h.2.2.2.2.2.2.2.2.2.2.2.2.2.1
theorem zTo.v9 {g : Zg} {G : zHG} {q t : Nat} {A : Nat → Nat → Nat} {N tk cp sh pr : Nat → Int32} {fc gn : Int32} (h : zTo g G q t A N tk cp sh pr fc gn) : zAr G (A 9 0) (q, 9) (zca g 0) 4 pr := h.2.2.2.2.2.2.2.2.2.2.2.2.2.2
theorem zTo.kp {g : Zg} {G : zHG} {q t : Nat} {A : Nat → Nat → Nat} {N tk cp sh pr : Nat → Int32} {fc gn : Int32} {G' : zHG} (h : zTo g G q t A N tk cp sh pr fc gn) (hk : zKp (q, 0) G G') : zTo g G' q t A N tk cp sh pr fc gn := by
  obtain ⟨o, c0, o0, h0, l0, s0, fc, fo, fh, fl, fs, v6, v7, v8, v9⟩ := h
  exact ⟨hk _ _ _ o (Or.inr (zky0 _ _ (by decide))), hk _ _ _ c0 (Or.inr (zky0 _ _ (by decide))), hk _ _ _ o0 (Or.inr (zky0 _ _ (by decide))), hk _ _ _ h0 (Or.inr (zky0 _ _ (by decide))), hk _ _ _ l0 (Or.inr (zky0 _ _ (by decide))), hk _ _ _ s0 (Or.inr (zky0 _ _ (by decide))), fun k hk2 => (fc k hk2).kp hk (zky0 _ _ (by omega)), fun k hk2 => (fo k hk2).kp hk (zky0 _ _ (by omega)), fun k hk2 => (fh k hk2).kp hk (zky0 _ _ (by omega)), fun k hk2 => (fl k hk2).kp hk (zky0 _ _ (by omega)), fun s hs => (fs s hs).kp hs hk, v6.kp hk (zky0 _ _ (by decide)), v7.kp hk (zky0 _ _ (by decide)), v8.kp hk (zky0 _ _ (by decide)), v9.kp hk (zky0 _ _ (by decide))⟩
theorem zTo_put_assets {g : Zg} {G : zHG} {q t : Nat} {A : Nat → Nat → Nat} {N tk cp sh pr : Nat → Int32} {fc gn : Int32} (x : Int32) (h : zTo g G q t A N tk cp sh pr fc gn) : zTo g (zup G t ((q, 0), zO 1 [.int x, .int (N 1), .ref (A 1 0), .ref (A 2 0), .ref (A 3 0), .ref (A 4 0), .ref (A 5 0), .int fc, .ref (A 6 0), .ref (A 7 0), .ref (A 8 0), .ref (A 20 0), .ref (A 21 0), .ref (A 9 0), .int gn])) q t A (upd N 0 x) tk cp sh pr fc gn := by
  obtain ⟨o, c0, o0, h0, l0, s0, fc, fo, fh, fl, fs, v6, v7, v8, v9⟩ := h
  have ha := o
  exact ⟨(by rw [show upd N 0 x 0 = x from if_pos rfl, ← show N 1 = upd N 0 x 1 from zupd_ne (by decide)]; exact zup_self _ _ _), zup_keep ha c0 (zlb (by omega)), zup_keep ha o0 (zlb (by omega)), zup_keep ha h0 (zlb (by omega)), zup_keep ha l0 (zlb (by omega)), zup_keep ha s0 (zlb (by omega)), fun k hk => (fc k hk).up ha (zlb (by omega)) (fun j hj => zupd_ne (by omega)), fun k hk => (fo k hk).up ha (zlb (by omega)) (fun j hj => zupd_ne (by omega)), fun k hk => (fh k hk).up ha (zlb (by omega)) (fun j hj => zupd_ne (by omega)), fun k hk => (fl k hk).up ha (zlb (by omega)) (fun j hj => zupd_ne (by omega)), fun s hs => (fs s hs).up hs ha (by omega) (by omega) (by omega) (fun j hj => zupd_ne (by omega)), v6.up ha (zlb (by omega)) (fun _ _ => rfl), v7.up ha (zlb (by omega)) (fun _ _ => rfl), v8.up ha (zlb (by omega)) (fun _ _ => rfl), v9.up ha (zlb (by omega)) (fun _ _ => rfl)⟩
theorem zTo_put_houses {g : Zg} {G : zHG} {q t : Nat} {A : Nat → Nat → Nat} {N tk cp sh pr : Nat → Int32} {fc gn : Int32} (x : Int32) (h : zTo g G q t A N tk cp sh pr fc gn) : zTo g (zup G t ((q, 0), zO 1 [.int (N 0), .int x, .ref (A 1 0), .ref (A 2 0), .ref (A 3 0), .ref (A 4 0), .ref (A 5 0), .int fc, .ref (A 6 0), .ref (A 7 0), .ref (A 8 0), .ref (A 20 0), .ref (A 21 0), .ref (A 9 0), .int gn])) q t A (upd N 1 x) tk cp sh pr fc gn := by
  obtain ⟨o, c0, o0, h0, l0, s0, fc, fo, fh, fl, fs, v6, v7, v8, v9⟩ := h
  have ha := o
  exact ⟨(by rw [show upd N 1 x 1 = x from if_pos rfl, ← show N 0 = upd N 1 x 0 from zupd_ne (by decide)]; exact zup_self _ _ _), zup_keep ha c0 (zlb (by omega)), zup_keep ha o0 (zlb (by omega)), zup_keep ha h0 (zlb (by omega)), zup_keep ha l0 (zlb (by omega)), zup_keep ha s0 (zlb (by omega)), fun k hk => (fc k hk).up ha (zlb (by omega)) (fun j hj => zupd_ne (by omega)), fun k hk => (fo k hk).up ha (zlb (by omega)) (fun j hj => zupd_ne (by omega)), fun k hk => (fh k hk).up ha (zlb (by omega)) (fun j hj => zupd_ne (by omega)), fun k hk => (fl k hk).up ha (zlb (by omega)) (fun j hj => zupd_ne (by omega)), fun s hs => (fs s hs).up hs ha (by omega) (by omega) (by omega) (fun j hj => zupd_ne (by omega)), v6.up ha (zlb (by omega)) (fun _ _ => rfl), v7.up ha (zlb (by omega)) (fun _ _ => rfl), v8.up ha (zlb (by omega)) (fun _ _ => rfl), v9.up ha (zlb (by omega)) (fun _ _ => rfl)⟩
theorem zTo_put_forced {g : Zg} {G : zHG} {q t : Nat} {A : Nat → Nat → Nat} {N tk cp sh pr : Nat → Int32} {fc gn : Int32} (x : Int32) (h : zTo g G q t A N tk cp sh pr fc gn) : zTo g (zup G t ((q, 0), zO 1 [.int (N 0), .int (N 1), .ref (A 1 0), .ref (A 2 0), .ref (A 3 0), .ref (A 4 0), .ref (A 5 0), .int x, .ref (A 6 0), .ref (A 7 0), .ref (A 8 0), .ref (A 20 0), .ref (A 21 0), .ref (A 9 0), .int gn])) q t A N tk cp sh pr x gn := by
  obtain ⟨o, c0, o0, h0, l0, s0, fc, fo, fh, fl, fs, v6, v7, v8, v9⟩ := h
  have ha := o
  exact ⟨zup_self _ _ _, zup_keep ha c0 (zlb (by omega)), zup_keep ha o0 (zlb (by omega)), zup_keep ha h0 (zlb (by omega)), zup_keep ha l0 (zlb (by omega)), zup_keep ha s0 (zlb (by omega)), fun k hk => (fc k hk).up ha (zlb (by omega)) (fun j hj => rfl), fun k hk => (fo k hk).up ha (zlb (by omega)) (fun j hj => rfl), fun k hk => (fh k hk).up ha (zlb (by omega)) (fun j hj => rfl), fun k hk => (fl k hk).up ha (zlb (by omega)) (fun j hj => rfl), fun s hs => (fs s hs).up hs ha (by omega) (by omega) (by omega) (fun j hj => rfl), v6.up ha (zlb (by omega)) (fun _ _ => rfl), v7.up ha (zlb (by omega)) (fun _ _ => rfl), v8.up ha (zlb (by omega)) (fun _ _ => rfl), v9.up ha (zlb (by omega)) (fun _ _ => rfl)⟩
theorem zTo_put_gone {g : Zg} {G : zHG} {q t : Nat} {A : Nat → Nat → Nat} {N tk cp sh pr : Nat → Int32} {fc gn : Int32} (x : Int32) (h : zTo g G q t A N tk cp sh pr fc gn) : zTo g (zup G t ((q, 0), zO 1 [.int (N 0), .int (N 1), .ref (A 1 0), .ref (A 2 0), .ref (A 3 0), .ref (A 4 0), .ref (A 5 0), .int fc, .ref (A 6 0), .ref (A 7 0), .ref (A 8 0), .ref (A 20 0), .ref (A 21 0), .ref (A 9 0), .int x])) q t A N tk cp sh pr fc x := by
  obtain ⟨o, c0, o0, h0, l0, s0, fc, fo, fh, fl, fs, v6, v7, v8, v9⟩ := h
  have ha := o
  exact ⟨zup_self _ _ _, zup_keep ha c0 (zlb (by omega)), zup_keep ha o0 (zlb (by omega)), zup_keep ha h0 (zlb (by omega)), zup_keep ha l0 (zlb (by omega)), zup_keep ha s0 (zlb (by omega)), fun k hk => (fc k hk).up ha (zlb (by omega)) (fun j hj => rfl), fun k hk => (fo k hk).up ha (zlb (by omega)) (fun j hj => rfl), fun k hk => (fh k hk).up ha (zlb (by omega)) (fun j hj => rfl), fun k hk => (fl k hk).up ha (zlb (by omega)) (fun j hj => rfl), fun s hs => (fs s hs).up hs ha (by omega) (by omega) (by omega) (fun j hj => rfl), v6.up ha (zlb (by omega)) (fun _ _ => rfl), v7.up ha (zlb (by omega)) (fun _ _ => rfl), v8.up ha (zlb (by omega)) (fun _ _ => rfl), v9.up ha (zlb (by omega)) (fun _ _ => rfl)⟩
theorem zTo_put_taken {g : Zg} {G : zHG} {q t : Nat} {A : Nat → Nat → Nat} {N tk cp sh pr : Nat → Int32} {fc gn : Int32} {tk' f' : Nat → Int32} (h : zTo g G q t A N tk cp sh pr fc gn) (hf : ∀ j, j < 4 → f' j = tk' j) : zTo g (zup G (A 6 0) ((q, 6), zI (zca g 0) 4 f')) q t A N tk' cp sh pr fc gn := by
  obtain ⟨o, c0, o0, h0, l0, s0, fc, fo, fh, fl, fs, v6, v7, v8, v9⟩ := h
  obtain ⟨f0, ha, hf0⟩ := v6
  exact ⟨zup_keep ha o (zlb (by omega)), zup_keep ha c0 (zlb (by omega)), zup_keep ha o0 (zlb (by omega)), zup_keep ha h0 (zlb (by omega)), zup_keep ha l0 (zlb (by omega)), zup_keep ha s0 (zlb (by omega)), fun k hk => (fc k hk).up ha (zlb (by omega)) (fun j hj => rfl), fun k hk => (fo k hk).up ha (zlb (by omega)) (fun j hj => rfl), fun k hk => (fh k hk).up ha (zlb (by omega)) (fun j hj => rfl), fun k hk => (fl k hk).up ha (zlb (by omega)) (fun j hj => rfl), fun s hs => (fs s hs).up hs ha (by omega) (by omega) (by omega) (fun j hj => rfl), ⟨f', zup_self _ _ _, hf⟩, v7.up ha (zlb (by omega)) (fun _ _ => rfl), v8.up ha (zlb (by omega)) (fun _ _ => rfl), v9.up ha (zlb (by omega)) (fun _ _ => rfl)⟩
theorem zTo_put_capped {g : Zg} {G : zHG} {q t : Nat} {A : Nat → Nat → Nat} {N tk cp sh pr : Nat → Int32} {fc gn : Int32} {cp' f' : Nat → Int32} (h : zTo g G q t A N tk cp sh pr fc gn) (hf : ∀ j, j < 4 → f' j = cp' j) : zTo g (zup G (A 7 0) ((q, 7), zI (zca g 0) 4 f')) q t A N tk cp' sh pr fc gn := by
  obtain ⟨o, c0, o0, h0, l0, s0, fc, fo, fh, fl, fs, v6, v7, v8, v9⟩ := h
  obtain ⟨f0, ha, hf0⟩ := v7
  exact ⟨zup_keep ha o (zlb (by omega)), zup_keep ha c0 (zlb (by omega)), zup_keep ha o0 (zlb (by omega)), zup_keep ha h0 (zlb (by omega)), zup_keep ha l0 (zlb (by omega)), zup_keep ha s0 (zlb (by omega)), fun k hk => (fc k hk).up ha (zlb (by omega)) (fun j hj => rfl), fun k hk => (fo k hk).up ha (zlb (by omega)) (fun j hj => rfl), fun k hk => (fh k hk).up ha (zlb (by omega)) (fun j hj => rfl), fun k hk => (fl k hk).up ha (zlb (by omega)) (fun j hj => rfl), fun s hs => (fs s hs).up hs ha (by omega) (by omega) (by omega) (fun j hj => rfl), v6.up ha (zlb (by omega)) (fun _ _ => rfl), ⟨f', zup_self _ _ _, hf⟩, v8.up ha (zlb (by omega)) (fun _ _ => rfl), v9.up ha (zlb (by omega)) (fun _ _ => rfl)⟩
theorem zTo_put_shocked {g : Zg} {G : zHG} {q t : Nat} {A : Nat → Nat → Nat} {N tk cp sh pr : Nat → Int32} {fc gn : Int32} {sh' f' : Nat → Int32} (h : zTo g G q t A N tk cp sh pr fc gn) (hf : ∀ j, j < 4 → f' j = sh' j) : zTo g (zup G (A 8 0) ((q, 8), zI (zca g 0) 4 f')) q t A N tk cp sh' pr fc gn := by
  obtain ⟨o, c0, o0, h0, l0, s0, fc, fo, fh, fl, fs, v6, v7, v8, v9⟩ := h
  obtain ⟨f0, ha, hf0⟩ := v8
  exact ⟨zup_keep ha o (zlb (by omega)), zup_keep ha c0 (zlb (by omega)), zup_keep ha o0 (zlb (by omega)), zup_keep ha h0 (zlb (by omega)), zup_keep ha l0 (zlb (by omega)), zup_keep ha s0 (zlb (by omega)), fun k hk => (fc k hk).up ha (zlb (by omega)) (fun j hj => rfl), fun k hk => (fo k hk).up ha (zlb (by omega)) (fun j hj => rfl), fun k hk => (fh k hk).up ha (zlb (by omega)) (fun j hj => rfl), fun k hk => (fl k hk).up ha (zlb (by omega)) (fun j hj => rfl), fun s hs => (fs s hs).up hs ha (by omega) (by omega) (by omega) (fun j hj => rfl), v6.up ha (zlb (by omega)) (fun _ _ => rfl), v7.up ha (zlb (by omega)) (fun _ _ => rfl), ⟨f', zup_self _ _ _, hf⟩, v9.up ha (zlb (by omega)) (fun _ _ => rfl)⟩
theorem zTo_put_priced {g : Zg} {G : zHG} {q t : Nat} {A : Nat → Nat → Nat} {N tk cp sh pr : Nat → Int32} {fc gn : Int32} {pr' f' : Nat → Int32} (h : zTo g G q t A N tk cp sh pr fc gn) (hf : ∀ j, j < 4 → f' j = pr' j) : zTo g (zup G (A 9 0) ((q, 9), zI (zca g 0) 4 f')) q t A N tk cp sh pr' fc gn := by
  obtain ⟨o, c0, o0, h0, l0, s0, fc, fo, fh, fl, fs, v6, v7, v8, v9⟩ := h
  obtain ⟨f0, ha, hf0⟩ := v9
  exact ⟨zup_keep ha o (zlb (by omega)), zup_keep ha c0 (zlb (by omega)), zup_keep ha o0 (zlb (by omega)), zup_keep ha h0 (zlb (by omega)), zup_keep ha l0 (zlb (by omega)), zup_keep ha s0 (zlb (by omega)), fun k hk => (fc k hk).up ha (zlb (by omega)) (fun j hj => rfl), fun k hk => (fo k hk).up ha (zlb (by omega)) (fun j hj => rfl), fun k hk => (fh k hk).up ha (zlb (by omega)) (fun j hj => rfl), fun k hk => (fl k hk).up ha (zlb (by omega)) (fun j hj => rfl), fun s hs => (fs s hs).up hs ha (by omega) (by omega) (by omega) (fun j hj => rfl), v6.up ha (zlb (by omega)) (fun _ _ => rfl), v7.up ha (zlb (by omega)) (fun _ _ => rfl), v8.up ha (zlb (by omega)) (fun _ _ => rfl), ⟨f', zup_self _ _ _, hf⟩⟩
theorem zTo_put_curve {g : Zg} {G : zHG} {q t : Nat} {A : Nat → Nat → Nat} {N tk cp sh pr : Nat → Int32} {fc gn : Int32} {k0 j0 : Nat} {x : Int32} {f0 : Nat → Int32} (hk0 : k0 < 4) (hj0 : j0 < 2) (h : zTo g G q t A N tk cp sh pr fc gn) (ha : G (A 11 k0) = some ((q, 176 + k0), zI (zca g 0) 2 f0)) (hf0 : ∀ j, j < 2 → f0 j = N (2 + 4 * j + k0)) : zTo g (zup G (A 11 k0) ((q, 176 + k0), zI (zca g 0) 2 (upd f0 j0 x))) q t A (upd N (2 + 4 * j0 + k0) x) tk cp sh pr fc gn := by
  obtain ⟨o, c0, o0, h0, l0, s0, fc, fo, fh, fl, fs, v6, v7, v8, v9⟩ := h
  refine ⟨(by rw [← show N 0 = upd N _ x 0 from zupd_ne (by omega), ← show N 1 = upd N _ x 1 from zupd_ne (by omega)]; exact zup_keep ha o (zlb (by omega))), zup_keep ha c0 (zlb (by omega)), zup_keep ha o0 (zlb (by omega)), zup_keep ha h0 (zlb (by omega)), zup_keep ha l0 (zlb (by omega)), zup_keep ha s0 (zlb (by omega)), ?_, fun k hk => (fo k hk).up ha (zlb (by omega)) (fun j hj => zupd_ne (by omega)), fun k hk => (fh k hk).up ha (zlb (by omega)) (fun j hj => zupd_ne (by omega)), fun k hk => (fl k hk).up ha (zlb (by omega)) (fun j hj => zupd_ne (by omega)), fun s hs => (fs s hs).up hs ha (by omega) (by omega) (by omega) (fun j hj => zupd_ne (by omega)), v6.up ha (zlb (by omega)) (fun _ _ => rfl), v7.up ha (zlb (by omega)) (fun _ _ => rfl), v8.up ha (zlb (by omega)) (fun _ _ => rfl), v9.up ha (zlb (by omega)) (fun _ _ => rfl)⟩
  intro k hk
  by_cases e : k = k0
  · subst e
    refine ⟨upd f0 j0 x, zup_self _ _ _, fun j hj => ?_⟩
    by_cases e : j = j0
    · subst e
      exact (if_pos rfl).trans (zupd_s rfl).symm
    · exact (if_neg e).trans ((hf0 j hj).trans (zupd_ne (by omega)))
  · exact (fc k hk).up ha (zlb (by omega)) (fun j hj => zupd_ne (by omega))
theorem zTo_put_of {g : Zg} {G : zHG} {q t : Nat} {A : Nat → Nat → Nat} {N tk cp sh pr : Nat → Int32} {fc gn : Int32} {k0 j0 : Nat} {x : Int32} {f0 : Nat → Int32} (hk0 : k0 < 6) (hj0 : j0 < 5) (h : zTo g G q t A N tk cp sh pr fc gn) (ha : G (A 12 k0) = some ((q, 192 + k0), zI (zca g 0) 5 f0)) (hf0 : ∀ j, j < 5 → f0 j = N (10 + 5 * k0 + j)) : zTo g (zup G (A 12 k0) ((q, 192 + k0), zI (zca g 0) 5 (upd f0 j0 x))) q t A (upd N (10 + 5 * k0 + j0) x) tk cp sh pr fc gn := by
  obtain ⟨o, c0, o0, h0, l0, s0, fc, fo, fh, fl, fs, v6, v7, v8, v9⟩ := h
  refine ⟨(by rw [← show N 0 = upd N _ x 0 from zupd_ne (by omega), ← show N 1 = upd N _ x 1 from zupd_ne (by omega)]; exact zup_keep ha o (zlb (by omega))), zup_keep ha c0 (zlb (by omega)), zup_keep ha o0 (zlb (by omega)), zup_keep ha h0 (zlb (by omega)), zup_keep ha l0 (zlb (by omega)), zup_keep ha s0 (zlb (by omega)), fun k hk => (fc k hk).up ha (zlb (by omega)) (fun j hj => zupd_ne (by omega)), ?_, fun k hk => (fh k hk).up ha (zlb (by omega)) (fun j hj => zupd_ne (by omega)), fun k hk => (fl k hk).up ha (zlb (by omega)) (fun j hj => zupd_ne (by omega)), fun s hs => (fs s hs).up hs ha (by omega) (by omega) (by omega) (fun j hj => zupd_ne (by omega)), v6.up ha (zlb (by omega)) (fun _ _ => rfl), v7.up ha (zlb (by omega)) (fun _ _ => rfl), v8.up ha (zlb (by omega)) (fun _ _ => rfl), v9.up ha (zlb (by omega)) (fun _ _ => rfl)⟩
  intro k hk
  by_cases e : k = k0
  · subst e
    refine ⟨upd f0 j0 x, zup_self _ _ _, fun j hj => ?_⟩
    by_cases e : j = j0
    · subst e
      exact (if_pos rfl).trans (zupd_s rfl).symm
    · exact (if_neg e).trans ((hf0 j hj).trans (zupd_ne (by omega)))
  · exact (fo k hk).up ha (zlb (by omega)) (fun j hj => zupd_ne (by omega))
theorem zTo_put_hold {g : Zg} {G : zHG} {q t : Nat} {A : Nat → Nat → Nat} {N tk cp sh pr : Nat → Int32} {fc gn : Int32} {k0 j0 : Nat} {x : Int32} {f0 : Nat → Int32} (hk0 : k0 < 6) (hj0 : j0 < 4) (h : zTo g G q t A N tk cp sh pr fc gn) (ha : G (A 13 k0) = some ((q, 208 + k0), zI (zca g 0) 4 f0)) (hf0 : ∀ j, j < 4 → f0 j = N (40 + 4 * k0 + j)) : zTo g (zup G (A 13 k0) ((q, 208 + k0), zI (zca g 0) 4 (upd f0 j0 x))) q t A (upd N (40 + 4 * k0 + j0) x) tk cp sh pr fc gn := by
  obtain ⟨o, c0, o0, h0, l0, s0, fc, fo, fh, fl, fs, v6, v7, v8, v9⟩ := h
  refine ⟨(by rw [← show N 0 = upd N _ x 0 from zupd_ne (by omega), ← show N 1 = upd N _ x 1 from zupd_ne (by omega)]; exact zup_keep ha o (zlb (by omega))), zup_keep ha c0 (zlb (by omega)), zup_keep ha o0 (zlb (by omega)), zup_keep ha h0 (zlb (by omega)), zup_keep ha l0 (zlb (by omega)), zup_keep ha s0 (zlb (by omega)), fun k hk => (fc k hk).up ha (zlb (by omega)) (fun j hj => zupd_ne (by omega)), fun k hk => (fo k hk).up ha (zlb (by omega)) (fun j hj => zupd_ne (by omega)), ?_, fun k hk => (fl k hk).up ha (zlb (by omega)) (fun j hj => zupd_ne (by omega)), fun s hs => (fs s hs).up hs ha (by omega) (by omega) (by omega) (fun j hj => zupd_ne (by omega)), v6.up ha (zlb (by omega)) (fun _ _ => rfl), v7.up ha (zlb (by omega)) (fun _ _ => rfl), v8.up ha (zlb (by omega)) (fun _ _ => rfl), v9.up ha (zlb (by omega)) (fun _ _ => rfl)⟩
  intro k hk
  by_cases e : k = k0
  · subst e
    refine ⟨upd f0 j0 x, zup_self _ _ _, fun j hj => ?_⟩
    by_cases e : j = j0
    · subst e
      exact (if_pos rfl).trans (zupd_s rfl).symm
    · exact (if_neg e).trans ((hf0 j hj).trans (zupd_ne (by omega)))
  · exact (fh k hk).up ha (zlb (by omega)) (fun j hj => zupd_ne (by omega))
theorem zTo_put_loan {g : Zg} {G : zHG} {q t : Nat} {A : Nat → Nat → Nat} {N tk cp sh pr : Nat → Int32} {fc gn : Int32} {k0 j0 : Nat} {x : Int32} {f0 : Nat → Int32} (hk0 : k0 < 6) (hj0 : j0 < 6) (h : zTo g G q t A N tk cp sh pr fc gn) (ha : G (A 14 k0) = some ((q, 224 + k0), zI (zca g 0) 6 f0)) (hf0 : ∀ j, j < 6 → f0 j = N (64 + 6 * k0 + j)) : zTo g (zup G (A 14 k0) ((q, 224 + k0), zI (zca g 0) 6 (upd f0 j0 x))) q t A (upd N (64 + 6 * k0 + j0) x) tk cp sh pr fc gn := by
  obtain ⟨o, c0, o0, h0, l0, s0, fc, fo, fh, fl, fs, v6, v7, v8, v9⟩ := h
  refine ⟨(by rw [← show N 0 = upd N _ x 0 from zupd_ne (by omega), ← show N 1 = upd N _ x 1 from zupd_ne (by omega)]; exact zup_keep ha o (zlb (by omega))), zup_keep ha c0 (zlb (by omega)), zup_keep ha o0 (zlb (by omega)), zup_keep ha h0 (zlb (by omega)), zup_keep ha l0 (zlb (by omega)), zup_keep ha s0 (zlb (by omega)), fun k hk => (fc k hk).up ha (zlb (by omega)) (fun j hj => zupd_ne (by omega)), fun k hk => (fo k hk).up ha (zlb (by omega)) (fun j hj => zupd_ne (by omega)), fun k hk => (fh k hk).up ha (zlb (by omega)) (fun j hj => zupd_ne (by omega)), ?_, fun s hs => (fs s hs).up hs ha (by omega) (by omega) (by omega) (fun j hj => zupd_ne (by omega)), v6.up ha (zlb (by omega)) (fun _ _ => rfl), v7.up ha (zlb (by omega)) (fun _ _ => rfl), v8.up ha (zlb (by omega)) (fun _ _ => rfl), v9.up ha (zlb (by omega)) (fun _ _ => rfl)⟩
  intro k hk
  by_cases e : k = k0
  · subst e
    refine ⟨upd f0 j0 x, zup_self _ _ _, fun j hj => ?_⟩
    by_cases e : j = j0
    · subst e
      exact (if_pos rfl).trans (zupd_s rfl).symm
    · exact (if_neg e).trans ((hf0 j hj).trans (zupd_ne (by omega)))
  · exact (fl k hk).up ha (zlb (by omega)) (fun j hj => zupd_ne (by omega))
