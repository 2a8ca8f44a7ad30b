set_option maxRecDepth 100000
theorem zfold_rel {α β : Type} {R : α → β → Prop} (n : Nat) (f : Nat → α → α) (f' : Nat → β → β) (x : α) (y : β) (h0 : R x y) (hs : ∀ j, j < n → ∀ c c', R c c' → R (f j c) (f' j c')) : R (zfold n f x) (zfold n f' y) := by
  induction n with
  | zero => exact h0
  | succ n ih => exact hs n (Nat.lt_succ_self n) _ _ (ih (fun j hj => hs j (Nat.lt_succ_of_lt hj)))
def zEq4 (f f' : Nat → Int32) : Prop := ∀ j, j < 4 → f j = f' j
theorem zSt.congr {g : Zg} {G : zHG} {κ : Nat × Nat} {s b : Nat} {sold sold' : Nat → Int32} {fallen fallen' : Int32} (h : zSt g G κ s b sold fallen) (h1 : zEq4 sold sold') (h2 : fallen = fallen') : zSt g G κ s b sold' fallen' := by
  obtain ⟨a, f, c, e⟩ := h
  exact ⟨h2 ▸ a, f, c, fun j hj => (e j hj).trans (h1 j hj)⟩
theorem x1_prices_at {N tk sh s pr : Nat → Int32} {A : Nat} {K : Nat → Nat} {j : Nat} (hj : j < A) : x1_prices_pr N tk sh pr s A K j = x1_price N tk sh s K j := by
  have h : ∀ n, ∀ j, j < n → x1_prices_l2 N tk sh s K pr n j = x1_price N tk sh s K j := by
    intro n
    induction n with
    | zero => intro j hj; omega
    | succ n ih =>
      intro j hj
      unfold x1_prices_l2 at ih ⊢
      rw [zfold_s]
      unfold upd
      split
      · rename_i e; rw [e]
      · exact ih j (by omega)
  exact h A j hj
theorem x1_worth_pr {N p p' : Nat → Int32} {A H h : Nat} {f : Int32} (e : ∀ j, j < A → p j = p' j) : x1_worth N p A H h f = x1_worth N p' A H h f := by
  unfold x1_worth
  have e2 : ∀ i, x1_worth_l21 N p h i A = x1_worth_l21 N p' h i A := fun i => zfold_rel (R := Eq) A _ _ i i rfl (fun j hj c c' hc => by rw [hc, e j hj])
  rw [e2]
theorem x1_price_s {N tk sh s s' : Nat → Int32} {K : Nat → Nat} {a : Nat} (e : zEq4 s s') (ha : a < 4) : x1_price N tk sh s K a = x1_price N tk sh s' K a := by
  unfold x1_price
  rw [e a ha]
theorem x1_sells_eq {N o o' : Nat → Int32} {A h : Nat} {m : Int32} (hA : A ≤ 4) (e : zEq4 o o') : zEq4 (x1_sells_onto_f N o A h m) (x1_sells_onto_f N o' A h m) := by
  unfold x1_sells_onto_f x1_sells_l6
  have hr := zfold_rel (R := fun (c c' : Int32 × (Nat → Int32)) => c.1 = c'.1 ∧ zEq4 c.2 c'.2) A
    (fun j1 cj1 => (cj1.1 - (if (N (40 + (4 * h) + (if (N (10 + (5 * h) + 4)) = 0 then j1 else A - 1 - j1))) < cj1.1 then (N (40 + (4 * h) + (if (N (10 + (5 * h) + 4)) = 0 then j1 else A - 1 - j1))) else cj1.1 : Int32), upd cj1.2 (if (N (10 + (5 * h) + 4)) = 0 then j1 else A - 1 - j1) ((cj1.2 (if (N (10 + (5 * h) + 4)) = 0 then j1 else A - 1 - j1)) + (if (N (40 + (4 * h) + (if (N (10 + (5 * h) + 4)) = 0 then j1 else A - 1 - j1))) < cj1.1 then (N (40 + (4 * h) + (if (N (10 + (5 * h) + 4)) = 0 then j1 else A - 1 - j1))) else cj1.1 : Int32))))
    (fun j1 cj1 => (cj1.1 - (if (N (40 + (4 * h) + (if (N (10 + (5 * h) + 4)) = 0 then j1 else A - 1 - j1))) < cj1.1 then (N (40 + (4 * h) + (if (N (10 + (5 * h) + 4)) = 0 then j1 else A - 1 - j1))) else cj1.1 : Int32), upd cj1.2 (if (N (10 + (5 * h) + 4)) = 0 then j1 else A - 1 - j1) ((cj1.2 (if (N (10 + (5 * h) + 4)) = 0 then j1 else A - 1 - j1)) + (if (N (40 + (4 * h) + (if (N (10 + (5 * h) + 4)) = 0 then j1 else A - 1 - j1))) < cj1.1 then (N (40 + (4 * h) + (if (N (10 + (5 * h) + 4)) = 0 then j1 else A - 1 - j1))) else cj1.1 : Int32))))
    (m, o) (m, o') ⟨rfl, e⟩ (fun j hj c c' hc => by
      obtain ⟨c1, c2⟩ := c
      obtain ⟨d1, d2⟩ := c'
      obtain ⟨h1, h2⟩ := hc
      have h1 : c1 = d1 := h1
      subst h1
      refine ⟨rfl, fun i hi => ?_⟩
      have hx : (if (N (10 + (5 * h) + 4)) = 0 then j else A - 1 - j) < 4 := by split <;> omega
      generalize (if (N (10 + (5 * h) + 4)) = 0 then j else A - 1 - j) = x at hx ⊢
      show upd c2 x _ i = upd d2 x _ i
      unfold upd
      dsimp only
      rw [show c2 x = d2 x from h2 x hx]
      split
      · rfl
      · exact h2 i hi)
  exact hr.2
theorem x1_next_eq {N tk cp sh pr pr' s s' o o' : Nat → Int32} {fc f : Int32} {A H : Nat} {K : Nat → Nat} (hA : A ≤ 4) (e : zEq4 s s') : zEq4 (x1_next_o_sold N tk cp sh pr fc s f o A H K) (x1_next_o_sold N tk cp sh pr' fc s' f o' A H K) ∧ x1_next_o_fallen N tk sh pr fc s f o A H K = x1_next_o_fallen N tk sh pr' fc s' f o' A H K := by
  have hp : ∀ j, j < A → x1_prices_pr N tk sh pr s A K j = x1_prices_pr N tk sh pr' s' A K j := fun j hj => by rw [x1_prices_at hj, x1_prices_at hj, x1_price_s e (by omega)]
  have hw : ∀ h, x1_worth N (x1_prices_pr N tk sh pr s A K) A H h f = x1_worth N (x1_prices_pr N tk sh pr' s' A K) A H h f := fun h => x1_worth_pr hp
  have h0 : zEq4 (x9_fill4_a_f o 0) (x9_fill4_a_f o' 0) := fun j hj => by
    unfold x9_fill4_a_f x9_fill4_l5
    have : j = 0 ∨ j = 1 ∨ j = 2 ∨ j = 3 := by omega
    rcases this with rfl | rfl | rfl | rfl <;> rfl
  have h1 : (fun (c c' : (Nat → Int32) × Int32) => zEq4 c.1 c'.1 ∧ c.2 = c'.2) (x1_next_l23 N tk sh pr s f A H K (x9_fill4_a_f o 0, fc) H) (x1_next_l23 N tk sh pr' s' f A H K (x9_fill4_a_f o' 0, fc) H) := by
    unfold x1_next_l23
    refine zfold_rel (R := fun (c c' : (Nat → Int32) × Int32) => zEq4 c.1 c'.1 ∧ c.2 = c'.2) H _ _ _ _ ⟨h0, rfl⟩ (fun j hj c c' hc => ?_)
    refine ⟨?_, ?_⟩
    · show zEq4 (x1_sells_onto_f _ _ _ _ _) (x1_sells_onto_f _ _ _ _ _)
      rw [hw j]
      exact x1_sells_eq hA hc.1
    · show (if _ then _ else _) = (if _ then _ else _)
      rw [hw j, hc.2]
  refine ⟨?_, h1.2⟩
  unfold x1_next_o_sold x1_next_l83
  refine zfold_rel (R := zEq4) A _ _ _ _ h1.1 (fun j hj c c' hc i hi => ?_)
  show upd c j _ i = upd c' j _ i
  unfold upd
  rw [hc j (by omega)]
  split
  · rfl
  · exact hc i hi
/-- the next state -/
def fs_next (N tk cp sh : Nat → Int32) (fc : Int32) (A H : Nat) (K : Nat → Nat) (c : (Nat → Int32) × Int32) : (Nat → Int32) × Int32 := (x1_next_o_sold N tk cp sh (fun _ => 0) fc c.1 c.2 (fun _ => 0) A H K, x1_next_o_fallen N tk sh (fun _ => 0) fc c.1 c.2 (fun _ => 0) A H K)
/-- so many steps behind a state -/
def fs_walk (N tk cp sh : Nat → Int32) (fc : Int32) (A H : Nat) (K : Nat → Nat) (c : (Nat → Int32) × Int32) (k : Nat) : (Nat → Int32) × Int32 := zfold k (fun _ c => fs_next N tk cp sh fc A H K c) c
theorem fs_walk_s (N tk cp sh : Nat → Int32) (fc : Int32) (A H : Nat) (K : Nat → Nat) (c : (Nat → Int32) × Int32) (k : Nat) : fs_walk N tk cp sh fc A H K c (k + 1) = fs_next N tk cp sh fc A H K (fs_walk N tk cp sh fc A H K c k) := zfold_s _ _ _
def fs_ns (N tk cp sh : Nat → Int32) (fc : Int32) (A H : Nat) (K : Nat → Nat) (s : Nat → Int32) (f : Int32) : Nat → Int32 := (fs_next N tk cp sh fc A H K (s, f)).1
def fs_nf (N tk cp sh : Nat → Int32) (fc : Int32) (A H : Nat) (K : Nat → Nat) (s : Nat → Int32) (f : Int32) : Int32 := (fs_next N tk cp sh fc A H K (s, f)).2
def fs_ws (N tk cp sh : Nat → Int32) (fc : Int32) (A H : Nat) (K : Nat → Nat) (c : (Nat → Int32) × Int32) (k : Nat) : Nat → Int32 := (fs_walk N tk cp sh fc A H K c k).1
def fs_wf (N tk cp sh : Nat → Int32) (fc : Int32) (A H : Nat) (K : Nat → Nat) (c : (Nat → Int32) × Int32) (k : Nat) : Int32 := (fs_walk N tk cp sh fc A H K c k).2
abbrev fs_like (c c' : (Nat → Int32) × Int32) : Prop := x3_isLike c.1 c.2 c'.1 c'.2
/-- how many steps till it is steady, so many at most -/
theorem zfirst_ex (P : Nat → Prop) [DecidablePred P] (n : Nat) : ∃ Z, Z = zfirst P n := ⟨_, rfl⟩
noncomputable def fs_gone (N tk cp sh : Nat → Int32) (fc : Int32) (A H : Nat) (K : Nat → Nat) (c : (Nat → Int32) × Int32) (most : Nat) : Nat := Classical.choose (zfirst_ex (fun k => fs_like (fs_walk N tk cp sh fc A H K c (k + 1)) (fs_walk N tk cp sh fc A H K c k)) most)
theorem fs_gone_eq (N tk cp sh : Nat → Int32) (fc : Int32) (A H : Nat) (K : Nat → Nat) (c : (Nat → Int32) × Int32) (most : Nat) : fs_gone N tk cp sh fc A H K c most = zfirst (fun k => fs_like (fs_walk N tk cp sh fc A H K c (k + 1)) (fs_walk N tk cp sh fc A H K c k)) most := Classical.choose_spec (zfirst_ex _ most)
theorem fs_gone_le {N tk cp sh : Nat → Int32} {fc : Int32} {A H : Nat} {K : Nat → Nat} {c : (Nat → Int32) × Int32} {most : Nat} : fs_gone N tk cp sh fc A H K c most ≤ most := by rw [fs_gone_eq]; exact zfirst_le _ _
/-- Town with its own two states -/
def zTw (g : Zg) (G : zHG) (q t : Nat) (B : Nat → Nat → Nat) (N tk cp sh : Nat → Int32) (fc gn : Int32) : Prop := ∃ (pr s1 s2 : Nat → Int32) (f1 f2 : Int32) (b1 b2 : Nat), zTo g G q t B N tk cp sh pr fc gn ∧ zSt g G (q, 1) (B 20 0) b1 s1 f1 ∧ zSt g G (q, 2) (B 21 0) b2 s2 f2
theorem zTw.kp {g : Zg} {G G' : zHG} {q t : Nat} {B : Nat → Nat → Nat} {N tk cp sh : Nat → Int32} {fc gn : Int32} (h : zTw g G q t B N tk cp sh fc gn) (h0 : zKp (q, 0) G G') (h1 : zKp (q, 1) G G') (h2 : zKp (q, 2) G G') : zTw g G' q t B N tk cp sh fc gn := by
  obtain ⟨pr, s1, s2, f1, f2, b1, b2, a, b, c⟩ := h
  exact ⟨pr, s1, s2, f1, f2, b1, b2, a.kp h0, b.kp h1, c.kp h2⟩
theorem zTw.o {g : Zg} {G : zHG} {q t : Nat} {B : Nat → Nat → Nat} {N tk cp sh : Nat → Int32} {fc gn : Int32} (h : zTw g G q t B N tk cp sh fc gn) : ∃ fs, G t = some ((q, 0), zO 1 fs) := by
  obtain ⟨pr, s1, s2, f1, f2, b1, b2, a, b, c⟩ := h
  exact ⟨_, a.o⟩
theorem x1_like_eq {a a' : Nat → Int32} {f f' f0 : Int32} {b b' : Nat → Int32} (h : zEq4 a a' ∧ f = f') (hb : b = b') : x3_isLike a f b f0 ↔ x3_isLike a' f' b' f0 := by
  obtain ⟨h1, rfl⟩ := h
  subst hb
  unfold x3_isLike
  rw [h1 0 (by decide), h1 1 (by decide), h1 2 (by decide), h1 3 (by decide)]
theorem met_X1_walk {g : Zg} (hG : zG g) {G0 : zHG} {q t : Nat} {B : Nat → Nat → Nat} {N tk cp sh : Nat → Int32} {fc gn : Int32} {ks : Nat × Nat} {s bs : Nat} {s_sold : Nat → Int32} {s_fallen : Int32} (ht : zTw g G0 q t B N tk cp sh fc gn) (hs : zSt g G0 ks s bs s_sold s_fallen) {A H : Nat} {K : Nat → Nat} (hN : zWf N A H K) (ne0 : ks ≠ (q, 0)) (ne1 : ks ≠ (q, 1)) (ne2 : ks ≠ (q, 2)) (most : Nat) (h_most : most < 1000001) : ZM g yX1_walk cX1_walk 6 (some (.object "FireSale$State")) 7 3 10 [.ref t, .ref s, .int (nI most)] G0 (fun r G' => ∃ nR sR bR : Nat, zFresh G0 nR ∧ r = some (.ref sR) ∧ (zTw g G' q t B N tk cp sh fc (nI (fs_gone N tk cp sh fc A H K (s_sold, s_fallen) most)) ∧ zSt g G' ks s bs s_sold s_fallen ∧ zSt g G' (nR, 0) sR bR (fs_ws N tk cp sh fc A H K (s_sold, s_fallen) (fs_gone N tk cp sh fc A H K (s_sold, s_fallen) most)) (fs_wf N tk cp sh fc A H K (s_sold, s_fallen) (fs_gone N tk cp sh fc A H K (s_sold, s_fallen) most)) ∧ zFrK [(q, 0), (q, 1), (q, 2)] G0 G')) := by
  unfold fs_ws fs_wf
  refine ZM_mk hG (by decide) (Nat.le_of_ble_eq_true rfl) ?_
  intro X hX hname hQ
  obtain ⟨Z, hZ⟩ : ∃ z, z = fs_gone N tk cp sh fc A H K (s_sold, s_fallen) most := ⟨_, rfl⟩
  have hZ1 : Z ≤ most := by rw [hZ]; exact fs_gone_le
  have hZ2 : ∀ i, i < Z → ¬ fs_like (fs_walk N tk cp sh fc A H K (s_sold, s_fallen) (i + 1)) (fs_walk N tk cp sh fc A H K (s_sold, s_fallen) i) := by rw [hZ, fs_gone_eq]; exact zfirst_no _ _
  have hZ3 : Z < most → fs_like (fs_walk N tk cp sh fc A H K (s_sold, s_fallen) (Z + 1)) (fs_walk N tk cp sh fc A H K (s_sold, s_fallen) Z) := by rw [hZ, fs_gone_eq]; exact zfirst_is _ _
  rw [← hZ] at hQ
  have hN2 := hN.2.1
  obtain ⟨pr, s1, s2, f1, f2, b1, b2, h0, h1, h2⟩ := ht
  show ZW g X 0 0 G0 0 [(0, .ref t), (1, .ref s), (2, .int (nI most))] []
  have En : ∀ (G : zHG) (κ1 κ2 : Nat × Nat) (o1 o2 c1 c2 : Nat) (pr os : Nat → Int32) (of : Int32), ((κ1 = (q, 1) ∧ κ2 = (q, 2) ∧ o1 = B 20 0 ∧ o2 = B 21 0) ∨ (κ1 = (q, 2) ∧ κ2 = (q, 1) ∧ o1 = B 21 0 ∧ o2 = B 20 0)) → zTo g G q t B N tk cp sh pr fc (nI Z) → zSt g G κ1 o1 c1 (fs_walk N tk cp sh fc A H K (s_sold, s_fallen) Z).1 (fs_walk N tk cp sh fc A H K (s_sold, s_fallen) Z).2 → zSt g G κ2 o2 c2 os of → zSt g G ks s bs s_sold s_fallen → zFrK [(q, 0), (q, 1), (q, 2)] G0 G → ZW g X 0 0 G 71 [(0, .ref t), (1, .ref s), (2, .int (nI most)), (3, .ref o1), (4, .ref o2)] [] := by
    intro G κ1 κ2 o1 o2 c1 c2 pr os of hk hT hA hB hS hF
    refine z_aload_n hX dX1_walk_71 72 rfl (i := 3) rfl 3 rfl ?_
    refine z_callV hX cwX1_184 (met_X3_copy hG hA) hA.o rfl rfl dX1_walk_72 75 rfl rfl rfl (Nat.le_of_ble_eq_true rfl) (by decide) ⟨by omega, by omega⟩ (fun r G1 hP => ?_)
    obtain ⟨n, o, b, hn, rfl, hA1, hO, hF1⟩ := hP
    show ZW g X 3 10 G1 75 [(0, .ref t), (1, .ref s), (2, .int (nI most)), (3, .ref o1), (4, .ref o2)] [.ref o]
    refine z_aret hX hQ (by omega) (by omega) rfl (Or.inl ⟨_, rfl⟩) dX1_walk_75 ⟨n, o, b, ?_, rfl, ?_, hS.kp (hF1.kp zni0), hO, hF.stepL hF1 zml0⟩
    · have hq : q ≠ n := hn _ _ _ hT.o
      exact zFresh.of hF hn (zfm1 hq (zfm1 hq (zfm1 hq zfm0)))
    · rcases hk with ⟨rfl, rfl, rfl, rfl⟩ | ⟨rfl, rfl, rfl, rfl⟩
      · exact ⟨_, _, _, _, _, _, _, hT.kp (hF1.kp zni0), hA1, hB.kp (hF1.kp zni0)⟩
      · exact ⟨_, _, _, _, _, _, _, hT.kp (hF1.kp zni0), hB.kp (hF1.kp zni0), hA1⟩
  have Lp : ∀ k j : Nat, j + k = Z → ∀ (G : zHG) (κ1 κ2 : Nat × Nat) (o1 o2 c1 c2 : Nat) (pr os : Nat → Int32) (of : Int32), ((κ1 = (q, 1) ∧ κ2 = (q, 2) ∧ o1 = B 20 0 ∧ o2 = B 21 0) ∨ (κ1 = (q, 2) ∧ κ2 = (q, 1) ∧ o1 = B 21 0 ∧ o2 = B 20 0)) → zTo g G q t B N tk cp sh pr fc (nI j) → zSt g G κ1 o1 c1 (fs_walk N tk cp sh fc A H K (s_sold, s_fallen) j).1 (fs_walk N tk cp sh fc A H K (s_sold, s_fallen) j).2 → zSt g G κ2 o2 c2 os of → zSt g G ks s bs s_sold s_fallen → zFrK [(q, 0), (q, 1), (q, 2)] G0 G → ZW g X 0 0 G 21 [(0, .ref t), (1, .ref s), (2, .int (nI most)), (3, .ref o1), (4, .ref o2)] [] := by
    intro k
    induction k with
    | zero =>
      intro j hj G κ1 κ2 o1 o2 c1 c2 pr os of hk hT hA hB hS hF
      have hj : j = Z := by omega
      subst hj
      refine z_aload_n hX dX1_walk_21 22 rfl (i := 0) rfl 0 rfl ?_
      refine z_getf hX fX1_173 hT.o dX1_walk_22 25 rfl (x := .int (nI j)) rfl ?_
      refine z_iload_n hX dX1_walk_25 26 rfl (i := 2) rfl 2 rfl ?_
      refine z_icmp_geN hX j most (by omega) (by omega) dX1_walk_26 29 rfl (tgt := 71) (by decide) (fun _ => ?_) (fun hlt => ?_)
      · exact En G κ1 κ2 o1 o2 c1 c2 pr os of hk hT hA hB hS hF
      have hk1 : (q, 0) ≠ κ1 := by rcases hk with ⟨rfl, _⟩ | ⟨rfl, _⟩ <;> exact zkr (by decide)
      have hk2 : (q, 0) ≠ κ2 := by rcases hk with ⟨_, rfl, _⟩ | ⟨_, rfl, _⟩ <;> exact zkr (by decide)
      have hk3 : κ1 ≠ κ2 := by rcases hk with ⟨rfl, rfl, _⟩ | ⟨rfl, rfl, _⟩ <;> exact zkr (by decide)
      have hk4 : ks ≠ κ2 := by rcases hk with ⟨_, rfl, _⟩ | ⟨_, rfl, _⟩ <;> assumption
      have hk5 : κ2 ∈ [(q, 0), (q, 1), (q, 2)] := by rcases hk with ⟨_, rfl, _⟩ | ⟨_, rfl, _⟩ <;> simp
      have h9 : ¬ κ2.2 = 9 := by rcases hk with ⟨_, rfl, _⟩ | ⟨_, rfl, _⟩ <;> simp
      refine z_aload_n hX dX1_walk_29 30 rfl (i := 0) rfl 0 rfl ?_
      refine z_aload_n hX dX1_walk_30 31 rfl (i := 3) rfl 3 rfl ?_
      refine z_aload hX dX1_walk_31 33 rfl 4 rfl ?_
      refine z_callV hX cwX1_176 (met_X1_next hG hT hA hB hN h9 hk1 hk2 hk3) hT.o rfl rfl dX1_walk_33 36 rfl rfl rfl (Nat.le_of_ble_eq_true rfl) (by decide) ⟨by omega, by omega⟩ (fun r G2 hP => ?_)
      obtain ⟨rfl, hT, hA, hB, hf⟩ := hP
      have hS := hS.kp (hf.kp (zni1 ne0 (zni1 hk4 zni0)))
      have hF := hF.stepL hf (zml1 (Or.inl List.mem_cons_self) (zml1 (Or.inl hk5) zml0))
      show ZW g X 0 0 G2 36 [(0, .ref t), (1, .ref s), (2, .int (nI most)), (3, .ref o1), (4, .ref o2)] []
      refine z_aload hX dX1_walk_36 38 rfl 4 rfl ?_
      refine z_aload_n hX dX1_walk_38 39 rfl (i := 3) rfl 3 rfl ?_
      refine z_callVp hX cwX1_180 (met_X3_isLike hG hB hA) hB.o rfl rfl dX1_walk_39 42 rfl rfl rfl (Nat.le_of_ble_eq_true rfl) (by decide) ⟨Nat.zero_le _, Nat.zero_le _⟩ ?_
      refine z_if_eqP hX (x3_isLike _ _ _ _) dX1_walk_42 45 rfl (tgt := 48) (by decide) (fun hno => ?_) (fun _ => ?_)
      · exact absurd ((x1_like_eq (x1_next_eq (pr' := fun _ => 0) (o' := fun _ => 0) hN2 (fun _ _ => rfl)) rfl).mpr (by have h := hZ3 hlt; rw [fs_walk_s] at h; exact h)) hno
      refine z_goto hX dX1_walk_45 (tgt := 71) (by decide) ?_
      exact En G2 κ1 κ2 o1 o2 c1 c2 _ _ _ hk hT hA hB hS hF
    | succ k ih =>
      intro j hj G κ1 κ2 o1 o2 c1 c2 pr os of hk hT hA hB hS hF
      refine z_aload_n hX dX1_walk_21 22 rfl (i := 0) rfl 0 rfl ?_
      refine z_getf hX fX1_173 hT.o dX1_walk_22 25 rfl (x := .int (nI j)) rfl ?_
      refine z_iload_n hX dX1_walk_25 26 rfl (i := 2) rfl 2 rfl ?_
      refine z_icmp_geN hX j most (by omega) (by omega) dX1_walk_26 29 rfl (tgt := 71) (by decide) (fun hge => ?_) (fun hlt => ?_)
      · exact absurd hge (by omega)
      have hk1 : (q, 0) ≠ κ1 := by rcases hk with ⟨rfl, _⟩ | ⟨rfl, _⟩ <;> exact zkr (by decide)
      have hk2 : (q, 0) ≠ κ2 := by rcases hk with ⟨_, rfl, _⟩ | ⟨_, rfl, _⟩ <;> exact zkr (by decide)
      have hk3 : κ1 ≠ κ2 := by rcases hk with ⟨rfl, rfl, _⟩ | ⟨rfl, rfl, _⟩ <;> exact zkr (by decide)
      have hk4 : ks ≠ κ2 := by rcases hk with ⟨_, rfl, _⟩ | ⟨_, rfl, _⟩ <;> assumption
      have hk5 : κ2 ∈ [(q, 0), (q, 1), (q, 2)] := by rcases hk with ⟨_, rfl, _⟩ | ⟨_, rfl, _⟩ <;> simp
      have h9 : ¬ κ2.2 = 9 := by rcases hk with ⟨_, rfl, _⟩ | ⟨_, rfl, _⟩ <;> simp
      refine z_aload_n hX dX1_walk_29 30 rfl (i := 0) rfl 0 rfl ?_
      refine z_aload_n hX dX1_walk_30 31 rfl (i := 3) rfl 3 rfl ?_
      refine z_aload hX dX1_walk_31 33 rfl 4 rfl ?_
      refine z_callV hX cwX1_176 (met_X1_next hG hT hA hB hN h9 hk1 hk2 hk3) hT.o rfl rfl dX1_walk_33 36 rfl rfl rfl (Nat.le_of_ble_eq_true rfl) (by decide) ⟨by omega, by omega⟩ (fun r G2 hP => ?_)
      obtain ⟨rfl, hT, hA, hB, hf⟩ := hP
      have hS := hS.kp (hf.kp (zni1 ne0 (zni1 hk4 zni0)))
      have hF := hF.stepL hf (zml1 (Or.inl List.mem_cons_self) (zml1 (Or.inl hk5) zml0))
      show ZW g X 0 0 G2 36 [(0, .ref t), (1, .ref s), (2, .int (nI most)), (3, .ref o1), (4, .ref o2)] []
      refine z_aload hX dX1_walk_36 38 rfl 4 rfl ?_
      refine z_aload_n hX dX1_walk_38 39 rfl (i := 3) rfl 3 rfl ?_
      refine z_callVp hX cwX1_180 (met_X3_isLike hG hB hA) hB.o rfl rfl dX1_walk_39 42 rfl rfl rfl (Nat.le_of_ble_eq_true rfl) (by decide) ⟨Nat.zero_le _, Nat.zero_le _⟩ ?_
      refine z_if_eqP hX (x3_isLike _ _ _ _) dX1_walk_42 45 rfl (tgt := 48) (by decide) (fun _ => ?_) (fun hyes => ?_)
      · refine z_aload_n hX dX1_walk_48 49 rfl (i := 3) rfl 3 rfl ?_
        refine z_astore hX dX1_walk_49 51 rfl (Nat.le_of_ble_eq_true rfl) rfl (L' := [(0, .ref t), (1, .ref s), (2, .int (nI most)), (3, .ref o1), (4, .ref o2), (5, .ref o1)]) rfl ?_
        refine z_aload hX dX1_walk_51 53 rfl 4 rfl ?_
        refine z_astore_n hX dX1_walk_53 54 rfl (i := 3) rfl (Nat.le_of_ble_eq_true rfl) rfl (L' := [(0, .ref t), (1, .ref s), (2, .int (nI most)), (3, .ref o2), (4, .ref o2), (5, .ref o1)]) rfl ?_
        refine z_aload hX dX1_walk_54 56 rfl 5 rfl ?_
        refine z_astore hX dX1_walk_56 58 rfl (Nat.le_of_ble_eq_true rfl) rfl (L' := [(0, .ref t), (1, .ref s), (2, .int (nI most)), (3, .ref o2), (4, .ref o1), (5, .ref o1)]) rfl ?_
        refine z_aload_n hX dX1_walk_58 59 rfl (i := 0) rfl 0 rfl ?_
        refine z_dup hX dX1_walk_59 60 rfl rfl ?_
        refine z_getf hX fX1_173 hT.o dX1_walk_60 63 rfl (x := .int (nI j)) rfl ?_
        refine z_iconst hX dX1_walk_63 64 rfl zki_1 ?_
        refine z_iadd hX dX1_walk_64 65 rfl (w := nI (j + 1)) (nI_1 j) ?_
        refine t_put_gone hX hT fX1_173 dX1_walk_65 68 rfl (fun G3 hw hf => ?_)
        refine z_goto hX dX1_walk_68 (tgt := 21) (by decide) ?_
        refine z_sub [0, 1, 2, 3, 4] rfl ?_
        refine ih (j + 1) (by omega) G3 κ2 κ1 o2 o1 c2 c1 _ _ _ (hk.elim (fun z => Or.inr ⟨z.2.1, z.1, z.2.2.2, z.2.2.1⟩) (fun z => Or.inl ⟨z.2.1, z.1, z.2.2.2, z.2.2.1⟩)) hw ?_ (hA.kp (hf.kp (zni1 (Ne.symm hk1) zni0))) (hS.kp (hf.kp (zni1 ne0 zni0))) (hF.step hf List.mem_cons_self)
        have hc := (hB.kp (hf.kp (zni1 (Ne.symm hk2) zni0))).congr (x1_next_eq (pr' := fun _ => 0) (o' := fun _ => 0) hN2 (fun _ _ => rfl)).1 (x1_next_eq (cp := cp) (pr' := fun _ => 0) (o' := fun _ => 0) hN2 (fun _ _ => rfl)).2
        rw [fs_walk_s]
        exact hc
      · exact absurd (show fs_like (fs_walk N tk cp sh fc A H K (s_sold, s_fallen) (j + 1)) (fs_walk N tk cp sh fc A H K (s_sold, s_fallen) j) from by rw [fs_walk_s]; exact (x1_like_eq (x1_next_eq (pr' := fun _ => 0) (o' := fun _ => 0) hN2 (fun _ _ => rfl)) rfl).mp hyes) (hZ2 j (by omega))
  have hTs : (q, 0) ≠ ks := Ne.symm ne0
  refine z_aload_n hX dX1_walk_0 1 rfl (i := 0) rfl 0 rfl ?_
  refine z_getf hX fX1_53 h0.o dX1_walk_1 4 rfl (x := .ref (B 20 0)) rfl ?_
  refine z_astore_n hX dX1_walk_4 5 rfl (i := 3) rfl (Nat.le_of_ble_eq_true rfl) rfl (L' := [(0, .ref t), (1, .ref s), (2, .int (nI most)), (3, .ref (B 20 0))]) rfl ?_
  refine z_aload_n hX dX1_walk_5 6 rfl (i := 0) rfl 0 rfl ?_
  refine z_getf hX fX1_57 h0.o dX1_walk_6 9 rfl (x := .ref (B 21 0)) rfl ?_
  refine z_astore hX dX1_walk_9 11 rfl (Nat.le_of_ble_eq_true rfl) rfl (L' := [(0, .ref t), (1, .ref s), (2, .int (nI most)), (3, .ref (B 20 0)), (4, .ref (B 21 0))]) rfl ?_
  refine z_aload_n hX dX1_walk_11 12 rfl (i := 3) rfl 3 rfl ?_
  refine z_aload_n hX dX1_walk_12 13 rfl (i := 1) rfl 1 rfl ?_
  refine z_callV hX cwX1_170 (met_X3_like hG h1 hs (show ¬ 1 = 9 from by decide) (Ne.symm ne1)) h1.o rfl rfl dX1_walk_13 16 rfl rfl rfl (Nat.le_of_ble_eq_true rfl) (by decide) ⟨by omega, by omega⟩ (fun r G1 hP => ?_)
  obtain ⟨rfl, h1, hs, hf⟩ := hP
  have h0 := h0.kp (hf.kp (zni1 (zkr (by decide)) zni0))
  have h2 := h2.kp (hf.kp (zni1 (zkr (by decide)) zni0))
  have hF : zFrK [(q, 0), (q, 1), (q, 2)] G0 G1 := (zFrK.rf).step hf (List.mem_cons_of_mem _ List.mem_cons_self)
  show ZW g X 0 0 G1 16 [(0, .ref t), (1, .ref s), (2, .int (nI most)), (3, .ref (B 20 0)), (4, .ref (B 21 0))] []
  refine z_aload_n hX dX1_walk_16 17 rfl (i := 0) rfl 0 rfl ?_
  refine z_iconst hX dX1_walk_17 18 rfl zki_0 ?_
  refine t_put_gone hX h0 fX1_173 dX1_walk_18 21 rfl (fun G2 hw hf => ?_)
  exact Lp Z 0 (by omega) G2 (q, 1) (q, 2) _ _ _ _ _ _ _ (Or.inl ⟨rfl, rfl, rfl, rfl⟩) (by rw [nI_0]; exact hw) (h1.kp (hf.kp (zni1 (zkr (by decide)) zni0))) (h2.kp (hf.kp (zni1 (zkr (by decide)) zni0))) (hs.kp (hf.kp (zni1 ne0 zni0))) (hF.step hf List.mem_cons_self)
