set_option maxRecDepth 100000
def zForever : Nat := 1000000
theorem big1000000 : (1000000 : Int32) = nI zForever := by decide
theorem zFor_lt : zForever < 1000001 := by decide
theorem ZM.imp {g : Zg} {y : MethodName} {cc : ByteArray} {nL : Nat} {ret : Option FieldType} {d mc ms : Nat} {as : List Value} {G : zHG} {P P' : Option Value → zHG → Prop} (h : ZM g y cc nL ret d mc ms as G P) (hp : ∀ r G', P r G' → P' r G') : ZM g y cc nL ret d mc ms as G P' := by
  unfold ZM Met at h ⊢
  exact MetFree.mono h (fun _ _ z => z) (fun _ _ _ _ _ z => z) (fun a s o s' _ hq => by
    obtain ⟨⟨⟨r, G', h1, h2, h3⟩, h4⟩, h5⟩ := hq
    exact ⟨⟨⟨r, G', h1, hp r G' h2, h3⟩, h4⟩, h5⟩)
def x1_worthW (N tk sh s_sold : Nat → Int32) (s_fallen : Int32) (A H : Nat) (K : Nat → Nat) (h : Nat) : Int32 := x1_worth N (x1_prices_pr N tk sh (fun _ => 0) s_sold A K) A H h s_fallen
def x1_mustSellW (N tk sh s_sold : Nat → Int32) (s_fallen : Int32) (A H : Nat) (K : Nat → Nat) (h : Nat) : Int32 := x1_mustSell N h (x1_worthW N tk sh s_sold s_fallen A H K h)
theorem x1_worthW_eq {N tk sh pr s_sold : Nat → Int32} {s_fallen : Int32} {A H : Nat} {K : Nat → Nat} {h : Nat} : x1_worth_2 N tk sh pr s_sold s_fallen A H K h = x1_worthW N tk sh s_sold s_fallen A H K h := x1_worth_pr (fun j hj => by rw [x1_prices_at hj, x1_prices_at hj])
theorem zTw.kpF {g : Zg} {G G' : zHG} {q t : Nat} {B : Nat → Nat → Nat} {N tk cp sh pr' : Nat → Int32} {fc gn' : Int32} {s1 s2 : Nat → Int32} {f1 f2 : Int32} {b1 b2 : Nat} (h0 : zTo g G' q t B N tk cp sh pr' fc gn') (h1 : zSt g G (q, 1) (B 20 0) b1 s1 f1) (h2 : zSt g G (q, 2) (B 21 0) b2 s2 f2) (hf : zFrK [(q, 0)] G G') : zTw g G' q t B N tk cp sh fc gn' := ⟨pr', s1, s2, f1, f2, b1, b2, h0, h1.kp (hf.kp (zni1 (zkr (by decide)) zni0)), h2.kp (hf.kp (zni1 (zkr (by decide)) zni0))⟩
theorem zFrK.tw {q : Nat} {G G' : zHG} (h : zFrK [(q, 0)] G G') : zFrK [(q, 0), (q, 1), (q, 2)] G G' := h.mono (fun κ hk => by rw [List.mem_singleton.mp hk]; exact List.mem_cons_self)
theorem met_x1_worthW {g : Zg} (hG : zG g) {G0 : zHG} {q t : Nat} {B : Nat → Nat → Nat} {N tk cp sh : Nat → Int32} {fc gn : Int32} {ks : Nat × Nat} {s bs : Nat} {s_sold : Nat → Int32} {s_fallen : Int32} (ht : zTw g G0 q t B N tk cp sh fc gn) (hs : zSt g G0 ks s bs s_sold s_fallen) {A H : Nat} {K : Nat → Nat} (hN : zWf N A H K) (ne_t_s_0 : (q, 0) ≠ ks) (ne_t_s_1 : (q, 1) ≠ ks) (ne_t_s_2 : (q, 2) ≠ ks) (h : Nat) (h_h : h < 6) : ZM g yX1_worth_2 cX1_worth_2 3 (some FieldType.int) 6 0 0 [.ref t, .ref s, .int (nI h)] G0 (fun r G' => r = some (.int (x1_worthW N tk sh s_sold s_fallen A H K h)) ∧ (zTw g G' q t B N tk cp sh fc gn ∧ zSt g G' ks s bs s_sold s_fallen ∧ zFrK [(q, 0), (q, 1), (q, 2)] G0 G')) := by
  obtain ⟨pr, s1, s2, f1, f2, b1, b2, h0, h1, h2⟩ := ht
  refine ZM.imp (met_X1_worth_2 hG h0 hs hN ne_t_s_0 h h_h) (fun r G' hP => ?_)
  obtain ⟨rfl, a, b, c⟩ := hP
  exact ⟨by rw [show x1_worth_2 N tk sh pr s_sold s_fallen A H K h = x1_worthW N tk sh s_sold s_fallen A H K h from x1_worthW_eq], zTw.kpF a h1 h2 c, b, c.tw⟩
theorem met_x1_mustSellW {g : Zg} (hG : zG g) {G0 : zHG} {q t : Nat} {B : Nat → Nat → Nat} {N tk cp sh : Nat → Int32} {fc gn : Int32} {ks : Nat × Nat} {s bs : Nat} {s_sold : Nat → Int32} {s_fallen : Int32} (ht : zTw g G0 q t B N tk cp sh fc gn) (hs : zSt g G0 ks s bs s_sold s_fallen) {A H : Nat} {K : Nat → Nat} (hN : zWf N A H K) (ne_t_s_0 : (q, 0) ≠ ks) (ne_t_s_1 : (q, 1) ≠ ks) (ne_t_s_2 : (q, 2) ≠ ks) (h : Nat) (h_h : h < H) : ZM g yX1_mustSell_2 cX1_mustSell_2 3 (some FieldType.int) 7 0 0 [.ref t, .ref s, .int (nI h)] G0 (fun r G' => r = some (.int (x1_mustSellW N tk sh s_sold s_fallen A H K h)) ∧ (zTw g G' q t B N tk cp sh fc gn ∧ zSt g G' ks s bs s_sold s_fallen ∧ zFrK [(q, 0), (q, 1), (q, 2)] G0 G')) := by
  obtain ⟨pr, s1, s2, f1, f2, b1, b2, h0, h1, h2⟩ := ht
  refine ZM.imp (met_X1_mustSell_2 hG h0 hs hN ne_t_s_0 h h_h) (fun r G' hP => ?_)
  obtain ⟨rfl, a, b, c⟩ := hP
  exact ⟨by rw [show x1_mustSell_2 N tk sh pr s_sold s_fallen A H K h = x1_mustSellW N tk sh s_sold s_fallen A H K h from (congrArg (x1_mustSell N h) x1_worthW_eq)], zTw.kpF a h1 h2 c, b, c.tw⟩
